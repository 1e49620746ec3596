/-! THE JDK: lists grow -/
set_option maxRecDepth 100000
section WA
variable {G : wt_G} {X : wt_X} {pc : Nat} {L : List (Option Value)} {st : List Value} {kc ks : Nat}
theorem wt_and {φ : Prop} {Z : Heap → Prop} (k : φ → wt_V G X pc L st Z kc ks) : wt_V G X pc L st (fun H => φ ∧ Z H) kc ks := by
  refine wt_ex (S := PLift φ) (Z' := fun _ => Z) (fun H h => ⟨⟨h.1⟩, h.2⟩) (fun u => k u.down)
theorem wt_exB {P : cB → Prop} (k : ∀ B, P B → wt_V G X pc L st (cz G B) kc ks) : wt_V G X pc L st (fun H => ∃ B, P B ∧ cz G B H) kc ks := by
  refine wt_ex (S := {B : cB // P B}) (Z' := fun u => cz G u.1) (fun H h => ?_) (fun u => k u.1 u.2)
  obtain ⟨B, h1, h2⟩ := h
  exact ⟨⟨B, h1⟩, h2⟩
end WA
/-- what a run carries of lists: their empty arrays, class objects -/
def cLs (G : wt_G) : Prop := cSt G ∧ cAO G ∧ cMi G ∧ ∀ s : State, wt_Sx G s s.heap → va_Dc s
/-- elements of a row are objects -/
def cEl (B : cB) (d k : Nat) : Prop := ∀ i, i < k → ∀ z, B.2.2.1 d i = some z → ∃ x, B.1 z = some x ∧ Cond.castable (wt_nm x) "java/lang/Object" ∈ lw_tbl
section JB
variable {l : Launch} {G : wt_G} {Z : Heap → Prop} {B : cB}
theorem ct_J0_init (a : Nat) : wt_Ct l G yJ0_init cJ0_init 1 none 2 0 0 [.ref a] Z (wt_pv Z) := by
  refine wt_enter [some (.ref a)] (by decide +kernel) rfl (Nat.le_of_ble_eq_true rfl) (fun X hc hok => ?_)
  refine wt_aload_0 (pc := 0) hc dJ0_init_0 ?_
  refine cv_obj (pc := 1) hc dJ0_init_1 q173 q152 q153 (by decide) (Nat.le_of_ble_eq_true rfl) rfl ?_
  exact wt_vret (pc := 4) hc hok dJ0_init_4 (fun H hZ => ⟨rfl, hZ⟩)
theorem ct_J1_init (a : Nat) (hG : cOK G B) (ha : B.1 a = some (.inl 11)) : wt_Ct l G yJ1_init cJ1_init 1 none 3 0 0 [.ref a] (cz G B) (wt_pv (cz G (cI B a 0 (nI 0)))) := by
  refine wt_enter [some (.ref a)] (by decide +kernel) rfl (Nat.le_of_ble_eq_true rfl) (fun X hc hok => ?_)
  refine wt_aload_0 (pc := 0) hc dJ1_init_0 ?_
  refine wt_gov (wt_invI (pc := 1) 0 hc (ct_J0_init a) dJ1_init_1 rfl q170 q171 q113 q172 rfl (by decide +kernel) rfl (by first | decide | omega) (by decide) (Nat.le_of_ble_eq_true rfl) rfl) (Nat.zero_le _) (Nat.zero_le _) ?_
  refine wt_aload_0 (pc := 4) hc dJ1_init_4 ?_
  refine wt_iconst (pc := 5) (v := nI 0) hc dJ1_init_5 (by decide) ?_
  refine cv_puti (pc := 6) 0 hc hG cP11 (ha) dJ1_init_6 q178 (by decide) (fun _ _ _ => rfl) (Or.inl rfl) rfl rfl rfl ?_
  exact wt_vret (pc := 9) hc hok dJ1_init_9 (fun H hZ => ⟨rfl, hZ⟩)
theorem ct_J2_init (hSt : cSt G) (a : Nat) (hG : cOK G B) (ha : B.1 a = some (.inl 11)) : wt_Ct l G yJ2_init cJ2_init 1 none 4 0 0 [.ref a] (cz G B) (wt_pv (cz G (cR (cI B a 0 (nI 0)) a 1 (some (G.2.2.2.1 0))))) := by
  refine wt_enter [some (.ref a)] (by decide +kernel) rfl (Nat.le_of_ble_eq_true rfl) (fun X hc hok => ?_)
  refine wt_aload_0 (pc := 0) hc dJ2_init_0 ?_
  refine wt_gov (wt_invI (pc := 1) 0 hc (ct_J1_init a hG ha) dJ2_init_1 rfl q167 q168 q114 q169 rfl (by decide +kernel) rfl (by first | decide | omega) (by decide) (Nat.le_of_ble_eq_true rfl) rfl) (Nat.zero_le _) (Nat.zero_le _) ?_
  refine wt_aload_0 (pc := 4) hc dJ2_init_4 ?_
  refine cv_gets (pc := 5) hc (hSt.e0) dJ2_init_5 q174 ?_
  refine cv_putr (pc := 8) (x := some (G.2.2.2.1 0)) 1 hc hG cP11 ha dJ2_init_8 q176 (by decide) (fun _ _ _ => rfl) (Or.inl rfl) rfl rfl rfl ?_
  exact wt_vret (pc := 11) hc hok dJ2_init_11 (fun H hZ => ⟨rfl, hZ⟩)
theorem ct_J16_newLength (o g p : Nat) (ho : o < 2 ^ 24) (hg : g < 2 ^ 24) (hp : p < 2 ^ 24) (h1 : 1 ≤ g) : wt_Ct l G yJ16_newLength cJ16_newLength 4 (some .int) 2 0 0 [.int (nI o), .int (nI g), .int (nI p)] Z (wt_fn (nI (o + if g < p then p else g)) Z) := by
  have e : (if nI g < nI p then nI p else nI g) = nI (if g < p then p else g) := by
    by_cases h : g < p
    · rw [if_pos h, if_pos (Int32.not_le.mp (nI_ge h (by omega)))]
    · rw [if_neg h, if_neg (Int32.not_lt.mpr (nI_le (by omega) (by omega)))]
  have hb : (if g < p then p else g) < 2 ^ 24 ∧ 1 ≤ (if g < p then p else g) := by split <;> omega
  generalize (if g < p then p else g) = m at e hb ⊢
  refine wt_enter [some (.int (nI o)), some (.int (nI g)), some (.int (nI p)), none] (by decide +kernel) rfl (Nat.le_of_ble_eq_true rfl) (fun X hc hok => ?_)
  refine wt_iload_0 (pc := 0) hc dJ16_newLength_0 ?_
  refine wt_iload_1 (pc := 1) hc dJ16_newLength_1 ?_
  refine wt_iload_2 (pc := 2) hc dJ16_newLength_2 ?_
  refine cv_mmax (pc := 3) hc dJ16_newLength_3 q354 q355 q122 q356 (by decide) (Nat.le_of_ble_eq_true rfl) rfl ?_
  refine wt_topi (z := nI m) e ?_
  refine wt_iadd (pc := 6) hc dJ16_newLength_6 ?_
  rw [nI_add o m]
  refine wt_istore_3 (pc := 7) hc dJ16_newLength_7 rfl ?_
  refine wt_iconst (pc := 8) (v := nI 0) hc dJ16_newLength_8 (by decide) ?_
  refine wt_iload_3 (pc := 9) hc dJ16_newLength_9 ?_
  refine wt_nicmp_ge (pc := 10) 21 (0) (o + m) hc dJ16_newLength_10 (by decide) (by omega) (by omega) (fun c_10 => ?_) (fun c_10 => ?_)
  · omega
  · refine wt_iload_3 (pc := 13) hc dJ16_newLength_13 ?_
    refine wt_ldc (pc := 14) (v := nI 2147483639) hc dJ16_newLength_14 q357 ?_
    refine wt_nicmp_gt (pc := 16) 21 (o + m) (2147483639) hc dJ16_newLength_16 (by decide) (by omega) (by omega) (fun c_16 => ?_) (fun c_16 => ?_)
    · omega
    · refine wt_iload_3 (pc := 19) hc dJ16_newLength_19 ?_
      exact wt_iret (pc := 20) hc hok dJ16_newLength_20 (rfl) (fun H hZ => ⟨rfl, hZ⟩)
theorem ct_J17_copyOf_2 (hLs : cLs G) (mi a0 n0 N k : Nat) (hM : ∀ s : State, wt_Sx G s s.heap → va_Mi "[Ljava/lang/Object;" mi s) (hG : cOK G B) (K0 : B.1 a0 = some (.inr (5, n0))) (hn : n0 < 2 ^ 24) (hN : N < 2 ^ 24) (hk : (k = n0 ∧ n0 ≤ N) ∨ (k = N ∧ N ≤ n0)) (hel : cEl B a0 k) (ms : Nat) (hms : N ≤ ms) : wt_Ct l G yJ17_copyOf_2 cJ17_copyOf_2 4 (some (.array (.object "java/lang/Object"))) 2 1 ms [.ref a0, .int (nI N), .ref mi] (cz G B) (wt_pr (fun r H => (G.1 ≤ r ∧ ∀ b, r ≤ b → B.1 b = none) ∧ cz G (cRr (cN B r (.inr (5, N))) r (va_cpy (B.2.2.1 a0) (fun _ => none) 0 0 k)) H)) := by
  have hmin : (if nI N < nI n0 then nI N else nI n0) = nI k := by
    rcases hk with ⟨h1, h⟩ | ⟨h1, h⟩
    · rw [h1]
      exact if_neg (Int32.not_lt.mpr (nI_le h (by omega)))
    · rw [h1]
      by_cases h2 : N = n0
      · rw [h2]; exact ite_self _
      · exact if_pos (Int32.not_le.mp (nI_ge (by omega) (by omega)))
  refine wt_enter [some (.ref a0), some (.int (nI N)), some (.ref mi), none] (by decide +kernel) rfl (Nat.le_of_ble_eq_true rfl) (fun X hc hok => ?_)
  refine wt_aload_2 (pc := 0) hc dJ17_copyOf_2_0 ?_
  refine cv_ldcM (pc := 1) hc hM dJ17_copyOf_2_1 q388 ?_
  refine wt_acmp_ne (pc := 3) 13 hc dJ17_copyOf_2_3 (by decide) (fun z => absurd rfl z) (fun _ => ?_)
  refine wt_iload_1 (pc := 6) hc dJ17_copyOf_2_6 ?_
  refine cv_anewO (pc := 7) hc hLs.2.1 dJ17_copyOf_2_7 q390 (by omega) (by omega) hms (fun r hr hf => ?_)
  have hne : a0 ≠ r := fun z => by rw [z, hf r (Nat.le_refl _)] at K0; cases K0
  have hR0 : (cN B r (.inr (5, N))).2.2.1 a0 = B.2.2.1 a0 := funext fun f => if_neg hne
  have hRr : (cN B r (.inr (5, N))).2.2.1 r = fun _ => none := funext fun f => if_pos rfl
  have K0' : (cN B r (.inr (5, N))).1 a0 = some (.inr (5, n0)) := (if_neg hne).trans K0
  have Kr : (cN B r (.inr (5, N))).1 r = some (.inr (5, N)) := if_pos rfl
  refine wt_goto (pc := 10) 24 hc dJ17_copyOf_2_10 (by decide) ?_
  refine wt_astore_3 (pc := 24) hc dJ17_copyOf_2_24 rfl ?_
  refine wt_aload_0 (pc := 25) hc dJ17_copyOf_2_25 ?_
  refine wt_iconst (pc := 26) (v := nI 0) hc dJ17_copyOf_2_26 (by decide) ?_
  refine wt_aload_3 (pc := 27) hc dJ17_copyOf_2_27 ?_
  refine wt_iconst (pc := 28) (v := nI 0) hc dJ17_copyOf_2_28 (by decide) ?_
  refine wt_aload_0 (pc := 29) hc dJ17_copyOf_2_29 ?_
  refine cv_alen (pc := 30) hc (K0') dJ17_copyOf_2_30 ?_
  refine wt_iload_1 (pc := 31) hc dJ17_copyOf_2_31 ?_
  refine cv_mmin (pc := 32) hc dJ17_copyOf_2_32 q391 q392 q122 q393 (by decide) (Nat.le_of_ble_eq_true rfl) rfl ?_
  refine wt_topi (z := nI k) hmin ?_
  refine cv_copyO (pc := 35) 0 0 k hc hr K0' Kr dJ17_copyOf_2_35 q394 q396 q395 q136 (by omega) (by omega) (by omega) (by omega) (fun i hi z hz => ?_) (by decide) (Nat.le_of_ble_eq_true rfl) rfl ?_
  · rw [hR0, Nat.zero_add] at hz
    obtain ⟨x, hx, hca⟩ := hel i hi z hz
    have hnz : z ≠ r := fun y => by rw [y, hf r (Nat.le_refl _)] at hx; cases hx
    exact ⟨x, (if_neg hnz).trans hx, hca⟩
  · rw [hR0, hRr]
    refine wt_aload_3 (pc := 38) hc dJ17_copyOf_2_38 ?_
    exact wt_aret (pc := 39) hc hok dJ17_copyOf_2_39 (Or.inr ⟨_, rfl⟩) (fun H hZ => ⟨r, rfl, ⟨hr, hf⟩, hZ⟩)
theorem ct_J17_copyOf (hLs : cLs G) (a0 n0 N k : Nat) (hG : cOK G B) (K0 : B.1 a0 = some (.inr (5, n0))) (hn : n0 < 2 ^ 24) (hN : N < 2 ^ 24) (hk : (k = n0 ∧ n0 ≤ N) ∨ (k = N ∧ N ≤ n0)) (hel : cEl B a0 k) (ms : Nat) (hms : N ≤ ms) : wt_Ct l G yJ17_copyOf cJ17_copyOf 2 (some (.array (.object "java/lang/Object"))) 3 1 ms [.ref a0, .int (nI N)] (cz G B) (wt_pr (fun r H => (G.1 ≤ r ∧ ∀ b, r ≤ b → B.1 b = none) ∧ cz G (cRr (cN B r (.inr (5, N))) r (va_cpy (B.2.2.1 a0) (fun _ => none) 0 0 k)) H)) := by
  obtain ⟨⟨mi, hM⟩, -⟩ := hLs.2.2.1
  refine wt_enter [some (.ref a0), some (.int (nI N))] (by decide +kernel) rfl (Nat.le_of_ble_eq_true rfl) (fun X hc hok => ?_)
  refine wt_aload_0 (pc := 0) hc dJ17_copyOf_0 ?_
  refine wt_iload_1 (pc := 1) hc dJ17_copyOf_1 ?_
  refine wt_aload_0 (pc := 2) hc dJ17_copyOf_2 ?_
  refine cv_getC (pc := 3) hc hM K0 (show "[" ++ (wt_aty 5).toString = "[Ljava/lang/Object;" from by decide +kernel) dJ17_copyOf_3 q364 hLs.2.2.2 q2294 q365 q384 (by decide) (Nat.le_of_ble_eq_true rfl) rfl ?_
  refine wt_gor (wt_invS (pc := 6) 3 hc (ct_J17_copyOf_2 hLs mi a0 n0 N k hM hG K0 hn hN hk hel ms hms) dJ17_copyOf_6 rfl q385 q386 q135 q387 (by decide +kernel) rfl (by first | decide | omega) (by decide) (Nat.le_of_ble_eq_true rfl) rfl) (Nat.le_refl _) (Nat.le_refl _) (fun r => ?_)
  exact wt_aret (pc := 9) hc hok dJ17_copyOf_9 (Or.inr ⟨_, rfl⟩) (fun H hZ => ⟨r, rfl, hZ⟩)
end JB
