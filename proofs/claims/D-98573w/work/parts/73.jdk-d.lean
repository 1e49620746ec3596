/-! THE JDK: lists: remove; boxed numbers -/
set_option maxRecDepth 100000
/-- what removing the place i leaves -/
def cRm (B B' : cB) (a d n c i : Nat) (e : Nat → Nat) : Prop := cLd B' a d n c (fun j => if j < i then e j else e (j + 1)) ∧ B'.1 = B.1 ∧ B'.2.2.2 = B.2.2.2 ∧ (∀ z, z ≠ a → B'.2.1 z = B.2.1 z) ∧ ∀ z, z ≠ d → B'.2.2.1 z = B.2.2.1 z
theorem cf_n128 {i : Nat} (h : i < 2 ^ 31) : ¬ nI i < (-128 : Int32) := by
  intro z
  have h1 := Int32.lt_iff_toInt_lt.mp z
  rw [nI_toInt h] at h1
  have e : (-128 : Int32).toInt = -128 := by decide
  omega
section JD
variable {l : Launch} {G : wt_G} {Z : Heap → Prop} {B : cB}
theorem ct_J2_fastRemove (hLs : cLs G) (a d n c i : Nat) (e : Nat → Nat) (hG : cOK G B) (hL : cLd B a d n (c + 1) e) (hi : i ≤ c) (hel : cEl B d (c + 1)) : wt_Ct l G yJ2_fastRemove cJ2_fastRemove 4 none 1 0 0 [.ref a, .ref d, .int (nI i)] (cz G B) (wt_pv (fun H => ∃ B', cRm B B' a d n c i e ∧ cz G B' H)) := by
  obtain ⟨h1, h2, h3, h4, h5, h6, h7⟩ := hL
  have had : a ≠ d := fun z => by rw [z, h3] at h1; cases h1
  have hGd : G.1 ≤ d := hG d _ h3 (by
    show ((5 == 5 && n == 0) || 5 == 6) = false
    have : (n == 0) = false := by simpa using (show n ≠ 0 by omega)
    rw [this]; rfl)
  refine wt_enter [some (.ref a), some (.ref d), some (.int (nI i)), none] (by decide +kernel) rfl (Nat.le_of_ble_eq_true rfl) (fun X hc hok => ?_)
  refine wt_aload_0 (pc := 0) hc dJ2_fastRemove_0 ?_
  refine wt_dup (pc := 1) hc dJ2_fastRemove_1 rfl ?_
  refine cv_geti (pc := 2) 0 _ hc cP11 (h1) dJ2_fastRemove_2 q179 (by decide) (Or.inr q180) (fun _ _ _ => rfl) (rfl) ?_
  refine wt_iconst (pc := 5) (v := nI 1) hc dJ2_fastRemove_5 (by decide) ?_
  refine wt_iadd (pc := 6) hc dJ2_fastRemove_6 ?_
  refine cv_puti (pc := 7) 0 hc hG cP11 (h1) dJ2_fastRemove_7 q179 (by decide) (fun _ _ _ => rfl) (Or.inr q180) rfl rfl rfl ?_
  refine wt_aload_0 (pc := 10) hc dJ2_fastRemove_10 ?_
  refine cv_geti (pc := 11) 2 (nI (c + 1)) hc cP11 (h1) dJ2_fastRemove_11 q177 (by decide) (Or.inl rfl) (fun _ _ _ => rfl) ((wt_up2_ne (fun z => absurd z.2 (by decide))).trans h2) ?_
  refine wt_iconst (pc := 14) (v := nI 1) hc dJ2_fastRemove_14 (by decide) ?_
  refine wt_isub (pc := 15) hc dJ2_fastRemove_15 ?_
  rw [show nI (c + 1) - nI 1 = nI c from nI_pred c]
  refine wt_dup (pc := 16) hc dJ2_fastRemove_16 rfl ?_
  refine wt_istore_3 (pc := 17) hc dJ2_fastRemove_17 rfl ?_
  refine wt_iload_2 (pc := 18) hc dJ2_fastRemove_18 ?_
  have tail : ∀ (f : Nat → Option Nat), (∀ j, j < c → f j = some (if j < i then e j else e (j + 1))) → wt_V G X 34 [some (.ref a), some (.ref d), some (.int (nI i)), some (.int (nI c))] [] (cz G (cRr (cI B a 0 (B.2.1 a 0 + nI 1)) d f)) 0 0 := by
    intro f hf
    refine wt_aload_1 (pc := 34) hc dJ2_fastRemove_34 ?_
    refine wt_aload_0 (pc := 35) hc dJ2_fastRemove_35 ?_
    refine wt_iload_3 (pc := 36) hc dJ2_fastRemove_36 ?_
    refine wt_dup_x1 (pc := 37) hc dJ2_fastRemove_37 rfl rfl ?_
    refine cv_puti (pc := 38) 2 hc hG cP11 (h1) dJ2_fastRemove_38 q177 (by decide) (fun _ _ _ => rfl) (Or.inl rfl) rfl rfl rfl ?_
    refine wt_null (pc := 41) hc dJ2_fastRemove_41 ?_
    refine cv_aastN (pc := 42) c hc hGd h3 dJ2_fastRemove_42 rfl (by omega) (by omega) ?_
    have hA : cRm B (cR (cI (cRr (cI B a 0 (B.2.1 a 0 + nI 1)) d f) a 2 (nI c)) d c none) a d n c i e := by
      refine ⟨⟨h1, wt_up2_self _ _ _ _, h3, ?_, by omega, h6, fun j hj => ?_⟩, rfl, rfl, fun z hz => (wt_up2_row hz).trans (wt_up2_row hz), fun z hz => (wt_up2_row hz).trans (if_neg hz)⟩
      · refine (wt_up2_ne (fun z => had z.1)).trans ?_
        exact (congrFun (if_neg had : (cRr (cI B a 0 (B.2.1 a 0 + nI 1)) d f).2.2.1 a = _) 1).trans h4
      · refine (wt_up2_ne (fun z => absurd z.2 (by omega))).trans ?_
        exact (congrFun (if_pos rfl : (cRr (cI B a 0 (B.2.1 a 0 + nI 1)) d f).2.2.1 d = _) j).trans (hf j hj)
    exact wt_vret (pc := 43) hc hok dJ2_fastRemove_43 (fun H hZ => ⟨rfl, _, hA, hZ⟩)
  refine wt_nicmp_le (pc := 19) 34 (c) (i) hc dJ2_fastRemove_19 (by decide) (by omega) (by omega) (fun c_19 => ?_) (fun c_19 => ?_)
  · have eR : cI B a 0 (B.2.1 a 0 + nI 1) = cRr (cI B a 0 (B.2.1 a 0 + nI 1)) d (B.2.2.1 d) := by
      have : (fun x => if x = d then B.2.2.1 d else B.2.2.1 x) = B.2.2.1 := by
        funext x
        by_cases hx : x = d
        · rw [if_pos hx, hx]
        · rw [if_neg hx]
      show _ = (B.1, _, (fun x => if x = d then B.2.2.1 d else B.2.2.1 x), B.2.2.2)
      rw [this]
      rfl
    have ht := tail (B.2.2.1 d) (fun j hj => by rw [if_pos (by omega)]; exact h7 j (by omega))
    rw [← eR] at ht
    exact ht
  · refine wt_aload_1 (pc := 22) hc dJ2_fastRemove_22 ?_
    refine wt_iload_2 (pc := 23) hc dJ2_fastRemove_23 ?_
    refine wt_iconst (pc := 24) (v := nI 1) hc dJ2_fastRemove_24 (by decide) ?_
    refine wt_iadd (pc := 25) hc dJ2_fastRemove_25 ?_
    rw [nI_add i 1]
    refine wt_aload_1 (pc := 26) hc dJ2_fastRemove_26 ?_
    refine wt_iload_2 (pc := 27) hc dJ2_fastRemove_27 ?_
    refine wt_iload_3 (pc := 28) hc dJ2_fastRemove_28 ?_
    refine wt_iload_2 (pc := 29) hc dJ2_fastRemove_29 ?_
    refine wt_isub (pc := 30) hc dJ2_fastRemove_30 ?_
    rw [pk_sub (a := c) (b := i) (by omega)]
    refine cv_copyO (pc := 31) (i + 1) i (c - i) hc hGd h3 h3 dJ2_fastRemove_31 q418 q396 q395 q136 (by omega) (by omega) (by omega) (by omega) (fun k hk z hz => hel (i + 1 + k) (by omega) z hz) (by decide) (Nat.le_of_ble_eq_true rfl) rfl ?_
    refine tail _ (fun j hj => ?_)
    unfold va_cpy
    by_cases hji : j < i
    · rw [if_neg (by omega), if_pos hji]
      exact h7 j (by omega)
    · rw [if_pos (by omega), if_neg hji]
      rw [show i + 1 + (j - i) = j + 1 by omega]
      exact h7 (j + 1) (by omega)
theorem ct_J2_remove (hLs : cLs G) (a d n c i : Nat) (e : Nat → Nat) (hG : cOK G B) (hL : cLd B a d n (c + 1) e) (hi : i ≤ c) (hel : cEl B d (c + 1)) : wt_Ct l G yJ2_remove cJ2_remove 4 (some (.object "java/lang/Object")) 3 0 0 [.ref a, .int (nI i)] (cz G B) (wt_fr (e i) (fun H => ∃ B', cRm B B' a d n c i e ∧ cz G B' H)) := by
  have hL0 := hL
  obtain ⟨h1, h2, h3, h4, h5, h6, h7⟩ := hL
  refine wt_enter [some (.ref a), some (.int (nI i)), none, none] (by decide +kernel) rfl (Nat.le_of_ble_eq_true rfl) (fun X hc hok => ?_)
  refine wt_iload_1 (pc := 0) hc dJ2_remove_0 ?_
  refine wt_aload_0 (pc := 1) hc dJ2_remove_1 ?_
  refine cv_geti (pc := 2) 2 (nI (c + 1)) hc cP11 (h1) dJ2_remove_2 q177 (by decide) (Or.inl rfl) (fun _ _ _ => rfl) (h2) ?_
  refine wt_gofn (wt_invS (pc := 5) 2 hc (ct_J13_checkIndex i (c + 1) (by omega) (by omega)) dJ2_remove_5 rfl q408 q409 q130 q410 (by decide +kernel) rfl (by first | decide | omega) (by decide) (Nat.le_of_ble_eq_true rfl) rfl) ?_
  refine wt_pop (pc := 8) hc dJ2_remove_8 rfl ?_
  refine wt_aload_0 (pc := 9) hc dJ2_remove_9 ?_
  refine cv_getr (pc := 10) (b := d) 1 hc cP11 (h1) dJ2_remove_10 q176 (by decide) (Or.inl rfl) (fun _ _ _ => rfl) (h4) ?_
  refine wt_astore_2 (pc := 13) hc dJ2_remove_13 rfl ?_
  refine wt_aload_2 (pc := 14) hc dJ2_remove_14 ?_
  refine wt_iload_1 (pc := 15) hc dJ2_remove_15 ?_
  refine cv_aaldr (pc := 16) (b := e i) (i) hc (h3) (by decide) dJ2_remove_16 (rfl) (by omega) (by omega) (h7 i (by omega)) ?_
  refine wt_astore_3 (pc := 17) hc dJ2_remove_17 rfl ?_
  refine wt_aload_0 (pc := 18) hc dJ2_remove_18 ?_
  refine wt_aload_2 (pc := 19) hc dJ2_remove_19 ?_
  refine wt_iload_1 (pc := 20) hc dJ2_remove_20 ?_
  refine wt_gov (wt_invV (pc := 21) 2 hc (ct_J2_fastRemove hLs a d n c i e hG hL0 hi hel) dJ2_remove_21 rfl (fun s H => cz_recv cP11 (h1) s H) q414 q416 qs4 q115 q417 (by decide +kernel) rfl (by first | decide | omega) (by decide) (Nat.le_of_ble_eq_true rfl) rfl) (Nat.zero_le _) (Nat.zero_le _) ?_
  refine wt_aload_3 (pc := 24) hc dJ2_remove_24 ?_
  exact wt_aret (pc := 25) hc hok dJ2_remove_25 (Or.inl ⟨_, rfl⟩) (fun H hZ => ⟨rfl, hZ⟩)
/-- the numbers of the cache -/
def cIc (G : wt_G) (B : cB) (bx : Nat → Nat) : Prop := B.1 (G.2.2.2.1 2) = some (.inr (6, 256)) ∧ ∀ i, i < 128 → B.2.2.1 (G.2.2.2.1 2) (i + 128) = some (bx i) ∧ B.1 (bx i) = some (.inl 12) ∧ B.2.1 (bx i) 0 = nI i
theorem ct_J15_valueOf (hSt : cSt G) (bx : Nat → Nat) (i : Nat) (hI : cIc G B bx) (hi : i < 128) : wt_Ct l G yJ15_valueOf cJ15_valueOf 1 (some (.object "java/lang/Integer")) 4 0 0 [.int (nI i)] (cz G B) (wt_fr (bx i) (cz G B)) := by
  obtain ⟨h1, h2⟩ := hI
  have h3 := (h2 i hi).1
  refine wt_enter [some (.int (nI i))] (by decide +kernel) rfl (Nat.le_of_ble_eq_true rfl) (fun X hc hok => ?_)
  refine wt_iload_0 (pc := 0) hc dJ15_valueOf_0 ?_
  refine wt_bipush (pc := 1) (v := (-128 : Int32)) hc dJ15_valueOf_1 (by decide) ?_
  refine wt_icmp_lt (pc := 3) 23 hc dJ15_valueOf_3 (by decide) (fun c_3 => ?_) (fun c_3 => ?_)
  · exact absurd c_3 (cf_n128 (by omega))
  · refine wt_iload_0 (pc := 6) hc dJ15_valueOf_6 ?_
    refine cv_gets (pc := 7) hc (hSt.hi) dJ15_valueOf_7 q1058 ?_
    refine wt_nicmp_gt (pc := 10) 23 (i) (127) hc dJ15_valueOf_10 (by decide) (by omega) (by omega) (fun c_10 => ?_) (fun c_10 => ?_)
    · omega
    · refine cv_gets (pc := 13) hc (hSt.ic) dJ15_valueOf_13 q1060 ?_
      refine wt_iload_0 (pc := 16) hc dJ15_valueOf_16 ?_
      refine wt_sipush (pc := 17) (v := nI 128) hc dJ15_valueOf_17 (by decide) ?_
      refine wt_iadd (pc := 20) hc dJ15_valueOf_20 ?_
      rw [nI_add i 128]
      refine cv_aaldr (pc := 21) (b := bx i) (i + 128) hc (h1) (by decide) dJ15_valueOf_21 (rfl) (by omega) (by omega) (h3) ?_
      exact wt_aret (pc := 22) hc hok dJ15_valueOf_22 (Or.inl ⟨_, rfl⟩) (fun H hZ => ⟨rfl, hZ⟩)
end JD
