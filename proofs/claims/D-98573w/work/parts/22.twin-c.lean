/-! THE REFERENCE: a night -/
set_option maxRecDepth 100000
def nn (x : Int32) : Nat := x.toNatClampNeg
theorem nn_nI {n : Nat} (h : n < 2 ^ 31) : nn (nI n) = n := nI_clamp h
def sp_fill (M : wt_It) (r n : Nat) (f : Nat → Int32) : wt_It := fun k j => if k = r ∧ j < n then f j else M k j
theorem sp_fill_0 (M : wt_It) (r : Nat) (f : Nat → Int32) : sp_fill M r 0 f = M := by
  funext k j
  simp [sp_fill]
theorem sp_fill_up (M : wt_It) (r n : Nat) (f : Nat → Int32) : wt_up2 (sp_fill M r n f) r n (f n) = sp_fill M r (n + 1) f := by
  funext k j
  simp only [wt_up2, sp_fill]
  by_cases hk : k = r
  · by_cases hj : j = n
    · subst hk; subst hj; simp
    · by_cases hl : j < n
      · simp [hk, hj, hl, Nat.lt_succ_of_lt hl]
      · have : ¬ j < n + 1 := by omega
        simp [hk, hj, hl, this]
  · simp [hk]
theorem sp_fill_row {M : wt_It} {r n k : Nat} {f : Nat → Int32} (h : k ≠ r) : sp_fill M r n f k = M k := by
  funext j
  simp [sp_fill, h]
theorem wt_up2_com {α : Type} {f : Nat → Nat → α} {a k b j : Nat} {v u : α} (h : a ≠ b) : wt_up2 (wt_up2 f a k v) b j u = wt_up2 (wt_up2 f b j u) a k v := by
  funext x y
  simp only [wt_up2]
  by_cases h1 : x = b ∧ y = j
  · have h2 : ¬ (x = a ∧ y = k) := fun z => h (z.1.symm.trans h1.1)
    rw [if_pos h1, if_neg h2, if_pos h1]
  · rw [if_neg h1]
    by_cases h2 : x = a ∧ y = k
    · rw [if_pos h2, if_pos h2]
    · rw [if_neg h2, if_neg h2, if_neg h1]
theorem sp_fill_com {M : wt_It} {r n b j : Nat} {f : Nat → Int32} {u : Int32} (h : r ≠ b) : wt_up2 (sp_fill M r n f) b j u = sp_fill (wt_up2 M b j u) r n f := by
  funext x y
  simp only [wt_up2, sp_fill]
  by_cases h1 : x = b ∧ y = j
  · have h2 : ¬ (x = r ∧ y < n) := fun z => h (z.1.symm.trans h1.1)
    rw [if_pos h1, if_neg h2, if_pos h1]
  · rw [if_neg h1]
    by_cases h2 : x = r ∧ y < n
    · rw [if_pos h2, if_pos h2]
    · rw [if_neg h2, if_neg h2, if_neg h1]
def sp_flies (M : wt_It) (o a b : Nat) : Int32 := if M 47 2 = nI 1 then nI 2 * (if M 8 o = nI 1 ∧ ¬ M 47 1 < nI 4 then (M 7 (10 * a + b) + nI 1) / nI 2 else M 7 (10 * a + b)) else (if M 8 o = nI 1 ∧ ¬ M 47 1 < nI 4 then (M 7 (10 * a + b) + nI 1) / nI 2 else M 7 (10 * a + b))
/-- a rule's run over its code, from the place k with m values on the pile: what the memory is then -/
def sp_rk : Nat → wt_It → Nat → Nat → wt_It
  | 0, M, _, _ => M
  | n + 1, M, k, m => if M 13 k = 0 then M else if M 13 k = nI 1 then sp_rk n (wt_up2 M 53 m (M 13 (k + 1))) (k + 1 + 1) (m + 1) else if M 13 k = nI 2 then sp_rk n (wt_up2 M 53 m (M 52 (nn (M 13 (k + 1))))) (k + 1 + 1) (m + 1) else if M 13 k = nI 3 then sp_rk n (wt_up2 M 53 (m - 1) (if M 53 (m - 1) = 0 then nI 1 else nI 0)) (k + 1) m else sp_rk n (wt_up2 M 53 (m - 2) (sp_works (M 13 k) (M 53 (m - 2)) (M 53 (m - 1)))) (k + 1) (m - 1)
/-- the code from k on can be run with m values on the pile -/
def sp_cok (c : Nat → Int32) : Nat → Nat → Nat → Prop
  | 0, _, _ => False
  | n + 1, k, m => k < 2800 ∧ (c k = 0 ∧ 1 ≤ m ∨ c k = nI 1 ∧ k + 1 < 2800 ∧ m < 950 ∧ sp_cok c n (k + 1 + 1) (m + 1) ∨ c k = nI 2 ∧ k + 1 < 2800 ∧ m < 950 ∧ (∃ q, q < 7 ∧ c (k + 1) = nI q) ∧ sp_cok c n (k + 1 + 1) (m + 1) ∨ c k = nI 3 ∧ 1 ≤ m ∧ m ≤ 950 ∧ sp_cok c n (k + 1) m ∨ (∃ q, 4 ≤ q ∧ q < 12 ∧ c k = nI q) ∧ 2 ≤ m ∧ m ≤ 950 ∧ sp_cok c n (k + 1) (m - 1))
theorem sp_rk_row : ∀ (n : Nat) (M : wt_It) (k m r : Nat), r ≠ 53 → sp_rk n M k m r = M r := by
  intro n
  induction n with
  | zero => intro M k m r _; rfl
  | succ n ih =>
    intro M k m r hr
    rw [sp_rk]
    split
    · rfl
    · split
      · rw [ih _ _ _ _ hr, wt_up2_row hr]
      · split
        · rw [ih _ _ _ _ hr, wt_up2_row hr]
        · split
          · rw [ih _ _ _ _ hr, wt_up2_row hr]
          · rw [ih _ _ _ _ hr, wt_up2_row hr]
section TC
variable {l : Launch} {G : wt_G} {Z : Heap → Prop} {T : tw_T} {M : wt_It} {w : Int64}
theorem ct_flies (hE : tw_E G T) (o a b : Nat) (ho : o < 5) (ha : a < 10) (hb : b < 10) : wt_Ct l G yX3_flies cX3_flies 5 (some .int) 1 0 0 [.ref T.1, .int (nI o), .int (nI a), .int (nI b)] (tw_Z G T M w) (wt_fn (sp_flies M o a b) (tw_Z G T M w)) := by
  refine wt_enter [some (.ref T.1), some (.int (nI o)), some (.int (nI a)), some (.int (nI b)), none] (by decide +kernel) rfl (Nat.le_of_ble_eq_true rfl) (fun X hc hok => ?_)
  refine wt_aload_0 (pc := 0) hc dX3_flies_0 ?_
  refine tw_geta (pc := 1) 7 hc hE dX3_flies_1 q1611 (by decide) (by decide) (fun _ _ _ => rfl) rfl ?_
  refine wt_bipush (pc := 4) (v := nI 10) hc dX3_flies_4 (by decide) ?_
  refine wt_iload_2 (pc := 6) hc dX3_flies_6 ?_
  refine wt_imul (pc := 7) hc dX3_flies_7 ?_
  rw [pk_mul 10 a]
  refine wt_iload_3 (pc := 8) hc dX3_flies_8 ?_
  refine wt_iadd (pc := 9) hc dX3_flies_9 ?_
  rw [nI_add (10 * a) b]
  refine tw_iald (pc := 10) (k := 7) (10 * a + b) _ hc hE dX3_flies_10 rfl (rfl) (by show _ < 100; omega) (by decide) (rfl) ?_
  refine wt_istore_4 (pc := 11) hc dX3_flies_11 rfl ?_
  refine wt_aload_0 (pc := 13) hc dX3_flies_13 ?_
  refine tw_geta (pc := 14) 8 hc hE dX3_flies_14 q1612 (by decide) (by decide) (fun _ _ _ => rfl) rfl ?_
  refine wt_iload_1 (pc := 17) hc dX3_flies_17 ?_
  refine tw_iald (pc := 18) (k := 8) (o) _ hc hE dX3_flies_18 rfl (rfl) (by show _ < 5; omega) (by decide) (rfl) ?_
  refine wt_iconst (pc := 19) (v := nI 1) hc dX3_flies_19 (by decide) ?_
  refine wt_icmp_ne (pc := 20) 41 hc dX3_flies_20 (by decide) (fun c_20 => ?_) (fun c_20 => ?_)
  · refine wt_aload_0 (pc := 41) hc dX3_flies_41 ?_
    refine tw_geta (pc := 42) 47 hc hE dX3_flies_42 q1651 (by decide) (by decide) (fun _ _ _ => rfl) rfl ?_
    refine wt_iconst (pc := 45) (v := nI 2) hc dX3_flies_45 (by decide) ?_
    refine tw_iald (pc := 46) (k := 47) (2) _ hc hE dX3_flies_46 rfl (rfl) (by show _ < 19; omega) (by decide) (rfl) ?_
    refine wt_iconst (pc := 47) (v := nI 1) hc dX3_flies_47 (by decide) ?_
    refine wt_icmp_ne (pc := 48) 58 hc dX3_flies_48 (by decide) (fun c_48 => ?_) (fun c_48 => ?_)
    · refine wt_iload_4 (pc := 58) hc dX3_flies_58 ?_
      exact wt_iret (pc := 60) hc hok dX3_flies_60 (rfl) (fun H hZ => ⟨by simp [sp_flies, c_20, c_48], hZ⟩)
    · refine wt_iconst (pc := 51) (v := nI 2) hc dX3_flies_51 (by decide) ?_
      refine wt_iload_4 (pc := 52) hc dX3_flies_52 ?_
      refine wt_imul (pc := 54) hc dX3_flies_54 ?_
      refine wt_goto (pc := 55) 60 hc dX3_flies_55 (by decide) ?_
      exact wt_iret (pc := 60) hc hok dX3_flies_60 (rfl) (fun H hZ => ⟨by simp [sp_flies, c_20, c_48], hZ⟩)
  · refine wt_aload_0 (pc := 23) hc dX3_flies_23 ?_
    refine tw_geta (pc := 24) 47 hc hE dX3_flies_24 q1651 (by decide) (by decide) (fun _ _ _ => rfl) rfl ?_
    refine wt_iconst (pc := 27) (v := nI 1) hc dX3_flies_27 (by decide) ?_
    refine tw_iald (pc := 28) (k := 47) (1) _ hc hE dX3_flies_28 rfl (rfl) (by show _ < 19; omega) (by decide) (rfl) ?_
    refine wt_iconst (pc := 29) (v := nI 4) hc dX3_flies_29 (by decide) ?_
    refine wt_icmp_lt (pc := 30) 41 hc dX3_flies_30 (by decide) (fun c_30 => ?_) (fun c_30 => ?_)
    · refine wt_aload_0 (pc := 41) hc dX3_flies_41 ?_
      refine tw_geta (pc := 42) 47 hc hE dX3_flies_42 q1651 (by decide) (by decide) (fun _ _ _ => rfl) rfl ?_
      refine wt_iconst (pc := 45) (v := nI 2) hc dX3_flies_45 (by decide) ?_
      refine tw_iald (pc := 46) (k := 47) (2) _ hc hE dX3_flies_46 rfl (rfl) (by show _ < 19; omega) (by decide) (rfl) ?_
      refine wt_iconst (pc := 47) (v := nI 1) hc dX3_flies_47 (by decide) ?_
      refine wt_icmp_ne (pc := 48) 58 hc dX3_flies_48 (by decide) (fun c_48 => ?_) (fun c_48 => ?_)
      · refine wt_iload_4 (pc := 58) hc dX3_flies_58 ?_
        exact wt_iret (pc := 60) hc hok dX3_flies_60 (rfl) (fun H hZ => ⟨by simp [sp_flies, c_20, c_30, c_48], hZ⟩)
      · refine wt_iconst (pc := 51) (v := nI 2) hc dX3_flies_51 (by decide) ?_
        refine wt_iload_4 (pc := 52) hc dX3_flies_52 ?_
        refine wt_imul (pc := 54) hc dX3_flies_54 ?_
        refine wt_goto (pc := 55) 60 hc dX3_flies_55 (by decide) ?_
        exact wt_iret (pc := 60) hc hok dX3_flies_60 (rfl) (fun H hZ => ⟨by simp [sp_flies, c_20, c_30, c_48], hZ⟩)
    · refine wt_iload_4 (pc := 33) hc dX3_flies_33 ?_
      refine wt_iconst (pc := 35) (v := nI 1) hc dX3_flies_35 (by decide) ?_
      refine wt_iadd (pc := 36) hc dX3_flies_36 ?_
      refine wt_iconst (pc := 37) (v := nI 2) hc dX3_flies_37 (by decide) ?_
      refine wt_idiv (pc := 38) hc dX3_flies_38 (by decide) ?_
      refine wt_istore_4 (pc := 39) hc dX3_flies_39 rfl ?_
      refine wt_aload_0 (pc := 41) hc dX3_flies_41 ?_
      refine tw_geta (pc := 42) 47 hc hE dX3_flies_42 q1651 (by decide) (by decide) (fun _ _ _ => rfl) rfl ?_
      refine wt_iconst (pc := 45) (v := nI 2) hc dX3_flies_45 (by decide) ?_
      refine tw_iald (pc := 46) (k := 47) (2) _ hc hE dX3_flies_46 rfl (rfl) (by show _ < 19; omega) (by decide) (rfl) ?_
      refine wt_iconst (pc := 47) (v := nI 1) hc dX3_flies_47 (by decide) ?_
      refine wt_icmp_ne (pc := 48) 58 hc dX3_flies_48 (by decide) (fun c_48 => ?_) (fun c_48 => ?_)
      · refine wt_iload_4 (pc := 58) hc dX3_flies_58 ?_
        exact wt_iret (pc := 60) hc hok dX3_flies_60 (rfl) (fun H hZ => ⟨by simp [sp_flies, c_20, c_30, c_48], hZ⟩)
      · refine wt_iconst (pc := 51) (v := nI 2) hc dX3_flies_51 (by decide) ?_
        refine wt_iload_4 (pc := 52) hc dX3_flies_52 ?_
        refine wt_imul (pc := 54) hc dX3_flies_54 ?_
        refine wt_goto (pc := 55) 60 hc dX3_flies_55 (by decide) ?_
        exact wt_iret (pc := 60) hc hok dX3_flies_60 (rfl) (fun H hZ => ⟨by simp [sp_flies, c_20, c_30, c_48], hZ⟩)
theorem sp_tableIn {l : Launch} {G : wt_G} {X : wt_X} {y : MethodName} {cc : ByteArray} {nL fr : Nat} {st : List Value} {Z : Heap → Prop} {kc ks : Nat} {L : List (Option Value)} {pc len : Nat} {dflt off : Int} {lo hi : Int} {offs : Array Int} (tgt q lo' : Nat) (hc : wt_Cx l G X y cc nL fr) (d : decode cc pc = .ok (.tableswitch dflt lo hi offs, len)) (hq : q < 2 ^ 31) (hlo : lo = (lo' : Int)) (h1 : lo' ≤ q) (h2 : (q : Int) ≤ hi) (ho : offs[q - lo']? = some off) (ht : (pc : Int) + off = (tgt : Int)) (k : wt_V G X tgt L st Z kc ks) : wt_V G X pc L (.int (nI q) :: st) Z kc ks := by
  have e := nI_toInt hq
  refine wt_tableIn tgt hc d (by rw [e, hlo]; omega) (by rw [e]; omega) (by rw [e, hlo, show ((q : Int) - (lo' : Int)).toNat = q - lo' by omega]; exact ho) ht k
theorem ct_works (q : Nat) (a b : Int32) (h1 : 4 ≤ q) (h2 : q < 12) : wt_Ct l G yX3_works cX3_works 3 (some .int) 1 0 0 [.int (nI q), .int a, .int b] Z (wt_fn (sp_works (nI q) a b) Z) := by
  refine wt_enter [some (.int (nI q)), some (.int a), some (.int b)] (by decide +kernel) rfl (Nat.le_of_ble_eq_true rfl) (fun X hc hok => ?_)
  refine wt_iload_0 (pc := 0) hc dX3_works_0 ?_
  by_cases h11 : q = 11
  · subst h11
    refine wt_tableOut (pc := 1) 106 hc dX3_works_1 (Or.inr (by decide)) (by decide) ?_
    refine wt_iload_2 (pc := 106) hc dX3_works_106 ?_
    refine wt_if_ne (pc := 107) 114 hc dX3_works_107 (by decide) (fun c_107 => ?_) (fun c_107 => ?_)
    · refine wt_iload_1 (pc := 114) hc dX3_works_114 ?_
      refine wt_iload_2 (pc := 115) hc dX3_works_115 ?_
      refine wt_idiv (pc := 116) hc dX3_works_116 (c_107) ?_
      exact wt_iret (pc := 117) hc hok dX3_works_117 (rfl) (fun H hZ => ⟨by rw [show sp_works (nI 11) a b = if b = 0 then 0 else a / b from rfl]; simp [c_107] <;> rfl, hZ⟩)
    · refine wt_iconst (pc := 110) (v := nI 0) hc dX3_works_110 (by decide) ?_
      refine wt_goto (pc := 111) 117 hc dX3_works_111 (by decide) ?_
      exact wt_iret (pc := 117) hc hok dX3_works_117 (rfl) (fun H hZ => ⟨by rw [show sp_works (nI 11) a b = if b = 0 then 0 else a / b from rfl]; simp [c_107] <;> rfl, hZ⟩)
  have hq : q = 4 ∨ q = 5 ∨ q = 6 ∨ q = 7 ∨ q = 8 ∨ q = 9 ∨ q = 10 := by omega
  rcases hq with rfl | rfl | rfl | rfl | rfl | rfl | rfl
  · refine sp_tableIn (pc := 1) 44 4 4 hc dX3_works_1 (by decide) rfl (by decide) (by decide) rfl (by decide) ?_
    refine wt_iload_1 (pc := 44) hc dX3_works_44 ?_
    refine wt_if_eq (pc := 45) 56 hc dX3_works_45 (by decide) (fun c_45 => ?_) (fun c_45 => ?_)
    · refine wt_iconst (pc := 56) (v := nI 0) hc dX3_works_56 (by decide) ?_
      exact wt_iret (pc := 57) hc hok dX3_works_57 (rfl) (fun H hZ => by first | exact sp_fnT (c := ¬ a = 0 ∧ ¬ b = 0) ⟨c_45, c_49⟩ hZ | exact sp_fnF (c := ¬ a = 0 ∧ ¬ b = 0) (fun z => z.2 c_49) hZ | exact sp_fnF (c := ¬ a = 0 ∧ ¬ b = 0) (fun z => z.1 c_45) hZ)
    · refine wt_iload_2 (pc := 48) hc dX3_works_48 ?_
      refine wt_if_eq (pc := 49) 56 hc dX3_works_49 (by decide) (fun c_49 => ?_) (fun c_49 => ?_)
      · refine wt_iconst (pc := 56) (v := nI 0) hc dX3_works_56 (by decide) ?_
        exact wt_iret (pc := 57) hc hok dX3_works_57 (rfl) (fun H hZ => by first | exact sp_fnT (c := ¬ a = 0 ∧ ¬ b = 0) ⟨c_45, c_49⟩ hZ | exact sp_fnF (c := ¬ a = 0 ∧ ¬ b = 0) (fun z => z.2 c_49) hZ | exact sp_fnF (c := ¬ a = 0 ∧ ¬ b = 0) (fun z => z.1 c_45) hZ)
      · refine wt_iconst (pc := 52) (v := nI 1) hc dX3_works_52 (by decide) ?_
        refine wt_goto (pc := 53) 57 hc dX3_works_53 (by decide) ?_
        exact wt_iret (pc := 57) hc hok dX3_works_57 (rfl) (fun H hZ => by first | exact sp_fnT (c := ¬ a = 0 ∧ ¬ b = 0) ⟨c_45, c_49⟩ hZ | exact sp_fnF (c := ¬ a = 0 ∧ ¬ b = 0) (fun z => z.2 c_49) hZ | exact sp_fnF (c := ¬ a = 0 ∧ ¬ b = 0) (fun z => z.1 c_45) hZ)
  · refine sp_tableIn (pc := 1) 58 5 4 hc dX3_works_1 (by decide) rfl (by decide) (by decide) rfl (by decide) ?_
    refine wt_iload_1 (pc := 58) hc dX3_works_58 ?_
    refine wt_if_ne (pc := 59) 66 hc dX3_works_59 (by decide) (fun c_59 => ?_) (fun c_59 => ?_)
    · refine wt_iconst (pc := 66) (v := nI 1) hc dX3_works_66 (by decide) ?_
      refine wt_goto (pc := 67) 71 hc dX3_works_67 (by decide) ?_
      exact wt_iret (pc := 71) hc hok dX3_works_71 (rfl) (fun H hZ => by first | exact sp_fnT (c := ¬ a = 0 ∨ ¬ b = 0) (Or.inl c_59) hZ | exact sp_fnT (c := ¬ a = 0 ∨ ¬ b = 0) (Or.inr c_63) hZ | exact sp_fnF (c := ¬ a = 0 ∨ ¬ b = 0) (fun z => z.elim (fun q => q c_59) (fun q => q c_63)) hZ)
    · refine wt_iload_2 (pc := 62) hc dX3_works_62 ?_
      refine wt_if_eq (pc := 63) 70 hc dX3_works_63 (by decide) (fun c_63 => ?_) (fun c_63 => ?_)
      · refine wt_iconst (pc := 70) (v := nI 0) hc dX3_works_70 (by decide) ?_
        exact wt_iret (pc := 71) hc hok dX3_works_71 (rfl) (fun H hZ => by first | exact sp_fnT (c := ¬ a = 0 ∨ ¬ b = 0) (Or.inl c_59) hZ | exact sp_fnT (c := ¬ a = 0 ∨ ¬ b = 0) (Or.inr c_63) hZ | exact sp_fnF (c := ¬ a = 0 ∨ ¬ b = 0) (fun z => z.elim (fun q => q c_59) (fun q => q c_63)) hZ)
      · refine wt_iconst (pc := 66) (v := nI 1) hc dX3_works_66 (by decide) ?_
        refine wt_goto (pc := 67) 71 hc dX3_works_67 (by decide) ?_
        exact wt_iret (pc := 71) hc hok dX3_works_71 (rfl) (fun H hZ => by first | exact sp_fnT (c := ¬ a = 0 ∨ ¬ b = 0) (Or.inl c_59) hZ | exact sp_fnT (c := ¬ a = 0 ∨ ¬ b = 0) (Or.inr c_63) hZ | exact sp_fnF (c := ¬ a = 0 ∨ ¬ b = 0) (fun z => z.elim (fun q => q c_59) (fun q => q c_63)) hZ)
  · refine sp_tableIn (pc := 1) 72 6 4 hc dX3_works_1 (by decide) rfl (by decide) (by decide) rfl (by decide) ?_
    refine wt_iload_1 (pc := 72) hc dX3_works_72 ?_
    refine wt_iload_2 (pc := 73) hc dX3_works_73 ?_
    refine wt_icmp_ge (pc := 74) 81 hc dX3_works_74 (by decide) (fun c_74 => ?_) (fun c_74 => ?_)
    · refine wt_iconst (pc := 81) (v := nI 0) hc dX3_works_81 (by decide) ?_
      exact wt_iret (pc := 82) hc hok dX3_works_82 (rfl) (fun H hZ => by first | exact sp_fnT (c := a < b) (Int32.not_le.mp c_74) hZ | exact sp_fnF (c := a < b) (Int32.not_lt.mpr c_74) hZ)
    · refine wt_iconst (pc := 77) (v := nI 1) hc dX3_works_77 (by decide) ?_
      refine wt_goto (pc := 78) 82 hc dX3_works_78 (by decide) ?_
      exact wt_iret (pc := 82) hc hok dX3_works_82 (rfl) (fun H hZ => by first | exact sp_fnT (c := a < b) (Int32.not_le.mp c_74) hZ | exact sp_fnF (c := a < b) (Int32.not_lt.mpr c_74) hZ)
  · refine sp_tableIn (pc := 1) 83 7 4 hc dX3_works_1 (by decide) rfl (by decide) (by decide) rfl (by decide) ?_
    refine wt_iload_1 (pc := 83) hc dX3_works_83 ?_
    refine wt_iload_2 (pc := 84) hc dX3_works_84 ?_
    refine wt_icmp_ne (pc := 85) 92 hc dX3_works_85 (by decide) (fun c_85 => ?_) (fun c_85 => ?_)
    · refine wt_iconst (pc := 92) (v := nI 0) hc dX3_works_92 (by decide) ?_
      exact wt_iret (pc := 93) hc hok dX3_works_93 (rfl) (fun H hZ => by first | exact sp_fnT (c := a = b) c_85 hZ | exact sp_fnF (c := a = b) c_85 hZ)
    · refine wt_iconst (pc := 88) (v := nI 1) hc dX3_works_88 (by decide) ?_
      refine wt_goto (pc := 89) 93 hc dX3_works_89 (by decide) ?_
      exact wt_iret (pc := 93) hc hok dX3_works_93 (rfl) (fun H hZ => by first | exact sp_fnT (c := a = b) c_85 hZ | exact sp_fnF (c := a = b) c_85 hZ)
  · refine sp_tableIn (pc := 1) 94 8 4 hc dX3_works_1 (by decide) rfl (by decide) (by decide) rfl (by decide) ?_
    refine wt_iload_1 (pc := 94) hc dX3_works_94 ?_
    refine wt_iload_2 (pc := 95) hc dX3_works_95 ?_
    refine wt_iadd (pc := 96) hc dX3_works_96 ?_
    exact wt_iret (pc := 97) hc hok dX3_works_97 (rfl) (fun H hZ => ⟨rfl, hZ⟩)
  · refine sp_tableIn (pc := 1) 98 9 4 hc dX3_works_1 (by decide) rfl (by decide) (by decide) rfl (by decide) ?_
    refine wt_iload_1 (pc := 98) hc dX3_works_98 ?_
    refine wt_iload_2 (pc := 99) hc dX3_works_99 ?_
    refine wt_isub (pc := 100) hc dX3_works_100 ?_
    exact wt_iret (pc := 101) hc hok dX3_works_101 (rfl) (fun H hZ => ⟨rfl, hZ⟩)
  · refine sp_tableIn (pc := 1) 102 10 4 hc dX3_works_1 (by decide) rfl (by decide) (by decide) rfl (by decide) ?_
    refine wt_iload_1 (pc := 102) hc dX3_works_102 ?_
    refine wt_iload_2 (pc := 103) hc dX3_works_103 ?_
    refine wt_imul (pc := 104) hc dX3_works_104 ?_
    exact wt_iret (pc := 105) hc hok dX3_works_105 (rfl) (fun H hZ => ⟨rfl, hZ⟩)
theorem ct_reckons (hE : tw_E G T) (n k0 : Nat) (hok0 : sp_cok (M 13) n k0 0) : wt_Ct l G yX3_reckons cX3_reckons 5 (some .int) 2 0 0 [.ref T.1, .int (nI k0)] (tw_Z G T M w) (wt_fn (sp_rk n M k0 0 53 0) (tw_Z G T (sp_rk n M k0 0) w)) := by
  refine wt_enter [some (.ref T.1), some (.int (nI k0)), none, none, none] (by decide +kernel) rfl (Nat.le_of_ble_eq_true rfl) (fun X hc hok => ?_)
  refine wt_iconst (pc := 0) (v := nI 0) hc dX3_reckons_0 (by decide) ?_
  refine wt_istore_2 (pc := 1) hc dX3_reckons_1 rfl ?_
  refine wt_iload_1 (pc := 2) hc dX3_reckons_2 ?_
  refine wt_istore_3 (pc := 3) hc dX3_reckons_3 rfl ?_
  have loop : ∀ (n : Nat) (M : wt_It) (k m : Nat), sp_cok (M 13) n k m → wt_V G X 143 [some (.ref T.1), none, none, none, none] [] (tw_Z G T (sp_rk n M k m) w) 0 0 → wt_V G X 4 [some (.ref T.1), none, some (.int (nI m)), some (.int (nI k)), none] [] (tw_Z G T M w) 0 0 := by
    intro n
    induction n with
    | zero => intro M k m h; exact h.elim
    | succ n ih =>
      intro M k m ⟨hk, hcase⟩ hend
      rw [sp_rk] at hend
      rcases hcase with ⟨e, -⟩ | ⟨e, h1, h2, h3⟩ | ⟨e, h1, h2, ⟨q, hq, eq⟩, h3⟩ | ⟨e, h1, h2, h3⟩ | ⟨⟨q, hq1, hq2, eq⟩, h1, h2, h3⟩
      · refine wt_aload_0 (pc := 4) hc dX3_reckons_4 ?_
        refine tw_geta (pc := 5) 13 hc hE dX3_reckons_5 q1617 (by decide) (by decide) (fun _ _ _ => rfl) rfl ?_
        refine wt_iload_3 (pc := 8) hc dX3_reckons_8 ?_
        refine tw_iald (pc := 9) (k := 13) (k) (0) hc hE dX3_reckons_9 rfl (rfl) (by show _ < 2800; omega) (by decide) (e) ?_
        refine wt_if_eq (pc := 10) 143 hc dX3_reckons_10 (by decide) (fun c_10 => ?_) (fun c_10 => ?_)
        · rw [if_pos e] at hend
          exact wt_drop hend ⟨rfl, trivial⟩
        · exact absurd rfl c_10
      · rw [if_neg (by rw [e]; decide), if_pos e] at hend
        refine wt_aload_0 (pc := 4) hc dX3_reckons_4 ?_
        refine tw_geta (pc := 5) 13 hc hE dX3_reckons_5 q1617 (by decide) (by decide) (fun _ _ _ => rfl) rfl ?_
        refine wt_iload_3 (pc := 8) hc dX3_reckons_8 ?_
        refine tw_iald (pc := 9) (k := 13) (k) (nI 1) hc hE dX3_reckons_9 rfl (rfl) (by show _ < 2800; omega) (by decide) (e) ?_
        refine wt_if_eq (pc := 10) 143 hc dX3_reckons_10 (by decide) (fun c_10 => ?_) (fun c_10 => ?_)
        · exact absurd c_10 (by decide)
        · refine wt_aload_0 (pc := 13) hc dX3_reckons_13 ?_
          refine tw_geta (pc := 14) 13 hc hE dX3_reckons_14 q1617 (by decide) (by decide) (fun _ _ _ => rfl) rfl ?_
          refine wt_iload_3 (pc := 17) hc dX3_reckons_17 ?_
          refine tw_iald (pc := 18) (k := 13) (k) (nI 1) hc hE dX3_reckons_18 rfl (rfl) (by show _ < 2800; omega) (by decide) (e) ?_
          refine wt_istore_4 (pc := 19) hc dX3_reckons_19 rfl ?_
          refine wt_iinc_3 (pc := 21) (v := nI (k + 1)) hc dX3_reckons_21 (nI_add k 1) rfl ?_
          refine wt_iload_4 (pc := 24) hc dX3_reckons_24 ?_
          refine wt_iconst (pc := 26) (v := nI 1) hc dX3_reckons_26 (by decide) ?_
          refine wt_nicmp_eq (pc := 27) 36 (1) (1) hc dX3_reckons_27 (by decide) (by omega) (by omega) (fun c_27 => ?_) (fun c_27 => ?_)
          · refine wt_aload_0 (pc := 36) hc dX3_reckons_36 ?_
            refine tw_geta (pc := 37) 53 hc hE dX3_reckons_37 q1657 (by decide) (by decide) (fun _ _ _ => rfl) rfl ?_
            refine wt_iload_2 (pc := 40) hc dX3_reckons_40 ?_
            refine wt_iload_4 (pc := 41) hc dX3_reckons_41 ?_
            refine wt_iconst (pc := 43) (v := nI 1) hc dX3_reckons_43 (by decide) ?_
            refine wt_nicmp_ne (pc := 44) 56 (1) (1) hc dX3_reckons_44 (by decide) (by omega) (by omega) (fun c_44 => ?_) (fun c_44 => ?_)
            · exact absurd rfl c_44
            · refine wt_aload_0 (pc := 47) hc dX3_reckons_47 ?_
              refine tw_geta (pc := 48) 13 hc hE dX3_reckons_48 q1617 (by decide) (by decide) (fun _ _ _ => rfl) rfl ?_
              refine wt_iload_3 (pc := 51) hc dX3_reckons_51 ?_
              refine tw_iald (pc := 52) (k := 13) (k + 1) _ hc hE dX3_reckons_52 rfl (rfl) (by show _ < 2800; omega) (by decide) (rfl) ?_
              refine wt_goto (pc := 53) 67 hc dX3_reckons_53 (by decide) ?_
              refine tw_iast (pc := 67) (k := 53) (m) hc hE dX3_reckons_67 rfl (rfl) (by show _ < 950; omega) (by decide) ?_
              refine wt_iinc_3 (pc := 68) (v := nI (k + 1 + 1)) hc dX3_reckons_68 (nI_add (k + 1) 1) rfl ?_
              refine wt_iinc_2 (pc := 71) (v := nI (m + 1)) hc dX3_reckons_71 (nI_add m 1) rfl ?_
              refine wt_goto (pc := 74) 140 hc dX3_reckons_74 (by decide) ?_
              refine wt_goto (pc := 140) 4 hc dX3_reckons_140 (by decide) ?_
              exact wt_drop (ih _ _ _ (by exact h3) hend) ⟨rfl, rfl, rfl, trivial⟩
          · exact absurd rfl c_27
      · rw [if_neg (by rw [e]; decide), if_neg (by rw [e]; decide), if_pos e, eq, nn_nI (by omega)] at hend
        refine wt_aload_0 (pc := 4) hc dX3_reckons_4 ?_
        refine tw_geta (pc := 5) 13 hc hE dX3_reckons_5 q1617 (by decide) (by decide) (fun _ _ _ => rfl) rfl ?_
        refine wt_iload_3 (pc := 8) hc dX3_reckons_8 ?_
        refine tw_iald (pc := 9) (k := 13) (k) (nI 2) hc hE dX3_reckons_9 rfl (rfl) (by show _ < 2800; omega) (by decide) (e) ?_
        refine wt_if_eq (pc := 10) 143 hc dX3_reckons_10 (by decide) (fun c_10 => ?_) (fun c_10 => ?_)
        · exact absurd c_10 (by decide)
        · refine wt_aload_0 (pc := 13) hc dX3_reckons_13 ?_
          refine tw_geta (pc := 14) 13 hc hE dX3_reckons_14 q1617 (by decide) (by decide) (fun _ _ _ => rfl) rfl ?_
          refine wt_iload_3 (pc := 17) hc dX3_reckons_17 ?_
          refine tw_iald (pc := 18) (k := 13) (k) (nI 2) hc hE dX3_reckons_18 rfl (rfl) (by show _ < 2800; omega) (by decide) (e) ?_
          refine wt_istore_4 (pc := 19) hc dX3_reckons_19 rfl ?_
          refine wt_iinc_3 (pc := 21) (v := nI (k + 1)) hc dX3_reckons_21 (nI_add k 1) rfl ?_
          refine wt_iload_4 (pc := 24) hc dX3_reckons_24 ?_
          refine wt_iconst (pc := 26) (v := nI 1) hc dX3_reckons_26 (by decide) ?_
          refine wt_nicmp_eq (pc := 27) 36 (2) (1) hc dX3_reckons_27 (by decide) (by omega) (by omega) (fun c_27 => ?_) (fun c_27 => ?_)
          · exact absurd c_27 (by decide)
          · refine wt_iload_4 (pc := 30) hc dX3_reckons_30 ?_
            refine wt_iconst (pc := 32) (v := nI 2) hc dX3_reckons_32 (by decide) ?_
            refine wt_nicmp_ne (pc := 33) 77 (2) (2) hc dX3_reckons_33 (by decide) (by omega) (by omega) (fun c_33 => ?_) (fun c_33 => ?_)
            · exact absurd rfl c_33
            · refine wt_aload_0 (pc := 36) hc dX3_reckons_36 ?_
              refine tw_geta (pc := 37) 53 hc hE dX3_reckons_37 q1657 (by decide) (by decide) (fun _ _ _ => rfl) rfl ?_
              refine wt_iload_2 (pc := 40) hc dX3_reckons_40 ?_
              refine wt_iload_4 (pc := 41) hc dX3_reckons_41 ?_
              refine wt_iconst (pc := 43) (v := nI 1) hc dX3_reckons_43 (by decide) ?_
              refine wt_nicmp_ne (pc := 44) 56 (2) (1) hc dX3_reckons_44 (by decide) (by omega) (by omega) (fun c_44 => ?_) (fun c_44 => ?_)
              · refine wt_aload_0 (pc := 56) hc dX3_reckons_56 ?_
                refine tw_geta (pc := 57) 52 hc hE dX3_reckons_57 q1656 (by decide) (by decide) (fun _ _ _ => rfl) rfl ?_
                refine wt_aload_0 (pc := 60) hc dX3_reckons_60 ?_
                refine tw_geta (pc := 61) 13 hc hE dX3_reckons_61 q1617 (by decide) (by decide) (fun _ _ _ => rfl) rfl ?_
                refine wt_iload_3 (pc := 64) hc dX3_reckons_64 ?_
                refine tw_iald (pc := 65) (k := 13) (k + 1) (nI q) hc hE dX3_reckons_65 rfl (rfl) (by show _ < 2800; omega) (by decide) (eq) ?_
                refine tw_iald (pc := 66) (k := 52) (q) _ hc hE dX3_reckons_66 rfl (rfl) (by show _ < 7; omega) (by decide) (rfl) ?_
                refine tw_iast (pc := 67) (k := 53) (m) hc hE dX3_reckons_67 rfl (rfl) (by show _ < 950; omega) (by decide) ?_
                refine wt_iinc_3 (pc := 68) (v := nI (k + 1 + 1)) hc dX3_reckons_68 (nI_add (k + 1) 1) rfl ?_
                refine wt_iinc_2 (pc := 71) (v := nI (m + 1)) hc dX3_reckons_71 (nI_add m 1) rfl ?_
                refine wt_goto (pc := 74) 140 hc dX3_reckons_74 (by decide) ?_
                refine wt_goto (pc := 140) 4 hc dX3_reckons_140 (by decide) ?_
                exact wt_drop (ih _ _ _ (by exact h3) hend) ⟨rfl, rfl, rfl, trivial⟩
              · exact absurd c_44 (by decide)
      · rw [if_neg (by rw [e]; decide), if_neg (by rw [e]; decide), if_neg (by rw [e]; decide), if_pos e] at hend
        obtain ⟨m, rfl⟩ : ∃ z, m = z + 1 := ⟨m - 1, by omega⟩
        rw [Nat.add_sub_cancel] at hend
        refine wt_aload_0 (pc := 4) hc dX3_reckons_4 ?_
        refine tw_geta (pc := 5) 13 hc hE dX3_reckons_5 q1617 (by decide) (by decide) (fun _ _ _ => rfl) rfl ?_
        refine wt_iload_3 (pc := 8) hc dX3_reckons_8 ?_
        refine tw_iald (pc := 9) (k := 13) (k) (nI 3) hc hE dX3_reckons_9 rfl (rfl) (by show _ < 2800; omega) (by decide) (e) ?_
        refine wt_if_eq (pc := 10) 143 hc dX3_reckons_10 (by decide) (fun c_10 => ?_) (fun c_10 => ?_)
        · exact absurd c_10 (by decide)
        · refine wt_aload_0 (pc := 13) hc dX3_reckons_13 ?_
          refine tw_geta (pc := 14) 13 hc hE dX3_reckons_14 q1617 (by decide) (by decide) (fun _ _ _ => rfl) rfl ?_
          refine wt_iload_3 (pc := 17) hc dX3_reckons_17 ?_
          refine tw_iald (pc := 18) (k := 13) (k) (nI 3) hc hE dX3_reckons_18 rfl (rfl) (by show _ < 2800; omega) (by decide) (e) ?_
          refine wt_istore_4 (pc := 19) hc dX3_reckons_19 rfl ?_
          refine wt_iinc_3 (pc := 21) (v := nI (k + 1)) hc dX3_reckons_21 (nI_add k 1) rfl ?_
          refine wt_iload_4 (pc := 24) hc dX3_reckons_24 ?_
          refine wt_iconst (pc := 26) (v := nI 1) hc dX3_reckons_26 (by decide) ?_
          refine wt_nicmp_eq (pc := 27) 36 (3) (1) hc dX3_reckons_27 (by decide) (by omega) (by omega) (fun c_27 => ?_) (fun c_27 => ?_)
          · exact absurd c_27 (by decide)
          · refine wt_iload_4 (pc := 30) hc dX3_reckons_30 ?_
            refine wt_iconst (pc := 32) (v := nI 2) hc dX3_reckons_32 (by decide) ?_
            refine wt_nicmp_ne (pc := 33) 77 (3) (2) hc dX3_reckons_33 (by decide) (by omega) (by omega) (fun c_33 => ?_) (fun c_33 => ?_)
            · refine wt_iload_4 (pc := 77) hc dX3_reckons_77 ?_
              refine wt_iconst (pc := 79) (v := nI 3) hc dX3_reckons_79 (by decide) ?_
              refine wt_nicmp_ne (pc := 80) 110 (3) (3) hc dX3_reckons_80 (by decide) (by omega) (by omega) (fun c_80 => ?_) (fun c_80 => ?_)
              · exact absurd rfl c_80
              · refine wt_aload_0 (pc := 83) hc dX3_reckons_83 ?_
                refine tw_geta (pc := 84) 53 hc hE dX3_reckons_84 q1657 (by decide) (by decide) (fun _ _ _ => rfl) rfl ?_
                refine wt_iload_2 (pc := 87) hc dX3_reckons_87 ?_
                refine wt_iconst (pc := 88) (v := nI 1) hc dX3_reckons_88 (by decide) ?_
                refine wt_isub (pc := 89) hc dX3_reckons_89 ?_
                rw [show nI (m + 1) - nI 1 = nI m from nI_pred m]
                refine wt_aload_0 (pc := 90) hc dX3_reckons_90 ?_
                refine tw_geta (pc := 91) 53 hc hE dX3_reckons_91 q1657 (by decide) (by decide) (fun _ _ _ => rfl) rfl ?_
                refine wt_iload_2 (pc := 94) hc dX3_reckons_94 ?_
                refine wt_iconst (pc := 95) (v := nI 1) hc dX3_reckons_95 (by decide) ?_
                refine wt_isub (pc := 96) hc dX3_reckons_96 ?_
                rw [show nI (m + 1) - nI 1 = nI m from nI_pred m]
                refine tw_iald (pc := 97) (k := 53) (m) _ hc hE dX3_reckons_97 rfl (rfl) (by show _ < 950; omega) (by decide) (rfl) ?_
                refine wt_if_ne (pc := 98) 105 hc dX3_reckons_98 (by decide) (fun c_98 => ?_) (fun c_98 => ?_)
                · refine wt_iconst (pc := 105) (v := nI 0) hc dX3_reckons_105 (by decide) ?_
                  refine tw_iast (pc := 106) (k := 53) (m) hc hE dX3_reckons_106 rfl (rfl) (by show _ < 950; omega) (by decide) ?_
                  refine wt_goto (pc := 107) 140 hc dX3_reckons_107 (by decide) ?_
                  refine wt_goto (pc := 140) 4 hc dX3_reckons_140 (by decide) ?_
                  first | (rw [if_pos c_98] at hend; exact wt_drop (ih _ _ _ (by exact h3) hend) ⟨rfl, rfl, rfl, trivial⟩) | (rw [if_neg c_98] at hend; exact wt_drop (ih _ _ _ (by exact h3) hend) ⟨rfl, rfl, rfl, trivial⟩)
                · refine wt_iconst (pc := 101) (v := nI 1) hc dX3_reckons_101 (by decide) ?_
                  refine wt_goto (pc := 102) 106 hc dX3_reckons_102 (by decide) ?_
                  refine tw_iast (pc := 106) (k := 53) (m) hc hE dX3_reckons_106 rfl (rfl) (by show _ < 950; omega) (by decide) ?_
                  refine wt_goto (pc := 107) 140 hc dX3_reckons_107 (by decide) ?_
                  refine wt_goto (pc := 140) 4 hc dX3_reckons_140 (by decide) ?_
                  first | (rw [if_pos c_98] at hend; exact wt_drop (ih _ _ _ (by exact h3) hend) ⟨rfl, rfl, rfl, trivial⟩) | (rw [if_neg c_98] at hend; exact wt_drop (ih _ _ _ (by exact h3) hend) ⟨rfl, rfl, rfl, trivial⟩)
            · exact absurd c_33 (by decide)
      · have hq3 : ∀ z, z < 4 → ¬ M 13 k = nI z := fun z hz q9 => by
          have := (nI_eq (a := q) (b := z) (by omega) (by omega)).mp (eq.symm.trans q9)
          omega
        rw [if_neg (show ¬ M 13 k = 0 from hq3 0 (by omega)), if_neg (hq3 1 (by omega)), if_neg (hq3 2 (by omega)), if_neg (hq3 3 (by omega)), eq] at hend
        obtain ⟨m, rfl⟩ : ∃ z, m = z + 1 + 1 := ⟨m - 2, by omega⟩
        refine wt_aload_0 (pc := 4) hc dX3_reckons_4 ?_
        refine tw_geta (pc := 5) 13 hc hE dX3_reckons_5 q1617 (by decide) (by decide) (fun _ _ _ => rfl) rfl ?_
        refine wt_iload_3 (pc := 8) hc dX3_reckons_8 ?_
        refine tw_iald (pc := 9) (k := 13) (k) (nI q) hc hE dX3_reckons_9 rfl (rfl) (by show _ < 2800; omega) (by decide) (eq) ?_
        refine wt_if_eq (pc := 10) 143 hc dX3_reckons_10 (by decide) (fun c_10 => ?_) (fun c_10 => ?_)
        · exact absurd (eq.trans c_10) (hq3 0 (by omega))
        · refine wt_aload_0 (pc := 13) hc dX3_reckons_13 ?_
          refine tw_geta (pc := 14) 13 hc hE dX3_reckons_14 q1617 (by decide) (by decide) (fun _ _ _ => rfl) rfl ?_
          refine wt_iload_3 (pc := 17) hc dX3_reckons_17 ?_
          refine tw_iald (pc := 18) (k := 13) (k) (nI q) hc hE dX3_reckons_18 rfl (rfl) (by show _ < 2800; omega) (by decide) (eq) ?_
          refine wt_istore_4 (pc := 19) hc dX3_reckons_19 rfl ?_
          refine wt_iinc_3 (pc := 21) (v := nI (k + 1)) hc dX3_reckons_21 (nI_add k 1) rfl ?_
          refine wt_iload_4 (pc := 24) hc dX3_reckons_24 ?_
          refine wt_iconst (pc := 26) (v := nI 1) hc dX3_reckons_26 (by decide) ?_
          refine wt_nicmp_eq (pc := 27) 36 (q) (1) hc dX3_reckons_27 (by decide) (by omega) (by omega) (fun c_27 => ?_) (fun c_27 => ?_)
          · omega
          · refine wt_iload_4 (pc := 30) hc dX3_reckons_30 ?_
            refine wt_iconst (pc := 32) (v := nI 2) hc dX3_reckons_32 (by decide) ?_
            refine wt_nicmp_ne (pc := 33) 77 (q) (2) hc dX3_reckons_33 (by decide) (by omega) (by omega) (fun c_33 => ?_) (fun c_33 => ?_)
            · refine wt_iload_4 (pc := 77) hc dX3_reckons_77 ?_
              refine wt_iconst (pc := 79) (v := nI 3) hc dX3_reckons_79 (by decide) ?_
              refine wt_nicmp_ne (pc := 80) 110 (q) (3) hc dX3_reckons_80 (by decide) (by omega) (by omega) (fun c_80 => ?_) (fun c_80 => ?_)
              · refine wt_iinc_2 (pc := 110) (v := nI (m + 1)) hc dX3_reckons_110 (pk_m1 (m + 1)) rfl ?_
                refine wt_aload_0 (pc := 113) hc dX3_reckons_113 ?_
                refine tw_geta (pc := 114) 53 hc hE dX3_reckons_114 q1657 (by decide) (by decide) (fun _ _ _ => rfl) rfl ?_
                refine wt_iload_2 (pc := 117) hc dX3_reckons_117 ?_
                refine wt_iconst (pc := 118) (v := nI 1) hc dX3_reckons_118 (by decide) ?_
                refine wt_isub (pc := 119) hc dX3_reckons_119 ?_
                rw [show nI (m + 1) - nI 1 = nI m from nI_pred m]
                refine wt_iload_4 (pc := 120) hc dX3_reckons_120 ?_
                refine wt_aload_0 (pc := 122) hc dX3_reckons_122 ?_
                refine tw_geta (pc := 123) 53 hc hE dX3_reckons_123 q1657 (by decide) (by decide) (fun _ _ _ => rfl) rfl ?_
                refine wt_iload_2 (pc := 126) hc dX3_reckons_126 ?_
                refine wt_iconst (pc := 127) (v := nI 1) hc dX3_reckons_127 (by decide) ?_
                refine wt_isub (pc := 128) hc dX3_reckons_128 ?_
                rw [show nI (m + 1) - nI 1 = nI m from nI_pred m]
                refine tw_iald (pc := 129) (k := 53) (m) _ hc hE dX3_reckons_129 rfl (rfl) (by show _ < 950; omega) (by decide) (rfl) ?_
                refine wt_aload_0 (pc := 130) hc dX3_reckons_130 ?_
                refine tw_geta (pc := 131) 53 hc hE dX3_reckons_131 q1657 (by decide) (by decide) (fun _ _ _ => rfl) rfl ?_
                refine wt_iload_2 (pc := 134) hc dX3_reckons_134 ?_
                refine tw_iald (pc := 135) (k := 53) (m + 1) _ hc hE dX3_reckons_135 rfl (rfl) (by show _ < 950; omega) (by decide) (rfl) ?_
                refine wt_gofn (wt_invS (pc := 136) 3 hc (ct_works q _ _ hq1 hq2) dX3_reckons_136 rfl q2009 q2010 q116 q2011 (by decide +kernel) rfl (by decide) (by decide) (Nat.le_of_ble_eq_true rfl) rfl) ?_
                refine tw_iast (pc := 139) (k := 53) (m) hc hE dX3_reckons_139 rfl (rfl) (by show _ < 950; omega) (by decide) ?_
                refine wt_goto (pc := 140) 4 hc dX3_reckons_140 (by decide) ?_
                exact wt_drop (ih _ _ _ (by exact h3) hend) ⟨rfl, rfl, rfl, trivial⟩
              · omega
            · omega
  refine wt_drop (loop n M k0 0 hok0 ?_) ⟨rfl, rfl, rfl, trivial⟩
  refine wt_aload_0 (pc := 143) hc dX3_reckons_143 ?_
  refine tw_geta (pc := 144) 53 hc hE dX3_reckons_144 q1657 (by decide) (by decide) (fun _ _ _ => rfl) rfl ?_
  refine wt_iconst (pc := 147) (v := nI 0) hc dX3_reckons_147 (by decide) ?_
  refine tw_iald (pc := 148) (k := 53) (0) _ hc hE dX3_reckons_148 rfl (rfl) (by show _ < 950; omega) (by decide) (rfl) ?_
  exact wt_iret (pc := 149) hc hok dX3_reckons_149 (rfl) (fun H hZ => ⟨rfl, hZ⟩)
end TC
