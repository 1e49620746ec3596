/-! THE JDK: lists are read -/
set_option maxRecDepth 100000
section JA
variable {l : Launch} {G : wt_G} {Z : Heap → Prop} {B : cB}
theorem ct_J2_size (a c : Nat) (ha : B.1 a = some (.inl 11)) (hc0 : B.2.1 a 2 = nI c) : wt_Ct l G yJ2_size cJ2_size 1 (some .int) 1 0 0 [.ref a] (cz G B) (wt_fn (nI c) (cz G B)) := by
  refine wt_enter [some (.ref a)] (by decide +kernel) rfl (Nat.le_of_ble_eq_true rfl) (fun X hc hok => ?_)
  refine wt_aload_0 (pc := 0) hc dJ2_size_0 ?_
  refine cv_geti (pc := 1) 2 (nI c) hc cP11 (ha) dJ2_size_1 q177 (by decide) (Or.inl rfl) (fun _ _ _ => rfl) (hc0) ?_
  exact wt_iret (pc := 4) hc hok dJ2_size_4 (rfl) (fun H hZ => ⟨rfl, hZ⟩)
theorem ct_J2_isEmpty (a c : Nat) (ha : B.1 a = some (.inl 11)) (hc0 : B.2.1 a 2 = nI c) (hc1 : c < 2 ^ 31) : wt_Ct l G yJ2_isEmpty cJ2_isEmpty 1 (some .boolean) 1 0 0 [.ref a] (cz G B) (wt_fn (sp_b (c = 0)) (cz G B)) := by
  refine wt_enter [some (.ref a)] (by decide +kernel) rfl (Nat.le_of_ble_eq_true rfl) (fun X hc hok => ?_)
  refine wt_aload_0 (pc := 0) hc dJ2_isEmpty_0 ?_
  refine cv_geti (pc := 1) 2 (nI c) hc cP11 (ha) dJ2_isEmpty_1 q177 (by decide) (Or.inl rfl) (fun _ _ _ => rfl) (hc0) ?_
  refine wt_if_ne (pc := 4) 11 hc dJ2_isEmpty_4 (by decide) (fun c_4 => ?_) (fun c_4 => ?_)
  · refine wt_iconst (pc := 11) (v := nI 0) hc dJ2_isEmpty_11 (by decide) ?_
    exact wt_iret (pc := 12) hc hok dJ2_isEmpty_12 (rfl) (fun H hZ => by first | exact sp_fnT (sp_i0 c_4 hc1) hZ | exact sp_fnF (sp_i0' c_4) hZ)
  · refine wt_iconst (pc := 7) (v := nI 1) hc dJ2_isEmpty_7 (by decide) ?_
    refine wt_goto (pc := 8) 12 hc dJ2_isEmpty_8 (by decide) ?_
    exact wt_iret (pc := 12) hc hok dJ2_isEmpty_12 (rfl) (fun H hZ => by first | exact sp_fnT (sp_i0 c_4 hc1) hZ | exact sp_fnF (sp_i0' c_4) hZ)
theorem ct_J11_checkIndex (i n : Nat) (f : Value) (hin : i < n) (hn : n < 2 ^ 31) : wt_Ct l G yJ11_checkIndex cJ11_checkIndex 3 (some .int) 1 0 0 [.int (nI i), .int (nI n), .null] Z (wt_fn (nI i) Z) := by
  refine wt_enter [some (.int (nI i)), some (.int (nI n)), some (.null)] (by decide +kernel) rfl (Nat.le_of_ble_eq_true rfl) (fun X hc hok => ?_)
  refine wt_iload_0 (pc := 0) hc dJ11_checkIndex_0 ?_
  refine wt_if_lt (pc := 1) 9 hc dJ11_checkIndex_1 (by decide) (fun c_1 => ?_) (fun c_1 => ?_)
  · exact absurd c_1 (Int32.not_lt.mpr (nI_pos' (by omega)))
  · refine wt_iload_0 (pc := 4) hc dJ11_checkIndex_4 ?_
    refine wt_iload_1 (pc := 5) hc dJ11_checkIndex_5 ?_
    refine wt_nicmp_lt (pc := 6) 16 (i) (n) hc dJ11_checkIndex_6 (by decide) (by omega) (by omega) (fun c_6 => ?_) (fun c_6 => ?_)
    · refine wt_iload_0 (pc := 16) hc dJ11_checkIndex_16 ?_
      exact wt_iret (pc := 17) hc hok dJ11_checkIndex_17 (rfl) (fun H hZ => ⟨rfl, hZ⟩)
    · omega
theorem ct_J13_checkIndex (i n : Nat) (hin : i < n) (hn : n < 2 ^ 31) : wt_Ct l G yJ13_checkIndex cJ13_checkIndex 2 (some .int) 2 0 0 [.int (nI i), .int (nI n)] Z (wt_fn (nI i) Z) := by
  refine wt_enter [some (.int (nI i)), some (.int (nI n))] (by decide +kernel) rfl (Nat.le_of_ble_eq_true rfl) (fun X hc hok => ?_)
  refine wt_iload_0 (pc := 0) hc dJ13_checkIndex_0 ?_
  refine wt_iload_1 (pc := 1) hc dJ13_checkIndex_1 ?_
  refine wt_null (pc := 2) hc dJ13_checkIndex_2 ?_
  refine wt_gofn (wt_invS (pc := 3) 3 hc (ct_J11_checkIndex i n .null hin hn) dJ13_checkIndex_3 rfl q411 q412 q126 q413 (by decide +kernel) rfl (by first | decide | omega) (by decide) (Nat.le_of_ble_eq_true rfl) rfl) ?_
  exact wt_iret (pc := 6) hc hok dJ13_checkIndex_6 (rfl) (fun H hZ => ⟨rfl, hZ⟩)
theorem ct_J2_elementData (a d n i b : Nat) (ha : B.1 a = some (.inl 11)) (hd : B.1 d = some (.inr (5, n))) (r1 : B.2.2.1 a 1 = some d) (hi : i < n) (hn : n < 2 ^ 31) (hb : B.2.2.1 d i = some b) : wt_Ct l G yJ2_elementData cJ2_elementData 2 (some (.object "java/lang/Object")) 1 0 0 [.ref a, .int (nI i)] (cz G B) (wt_fr b (cz G B)) := by
  refine wt_enter [some (.ref a), some (.int (nI i))] (by decide +kernel) rfl (Nat.le_of_ble_eq_true rfl) (fun X hc hok => ?_)
  refine wt_aload_0 (pc := 0) hc dJ2_elementData_0 ?_
  refine cv_getr (pc := 1) (b := d) 1 hc cP11 (ha) dJ2_elementData_1 q176 (by decide) (Or.inl rfl) (fun _ _ _ => rfl) (r1) ?_
  refine wt_iload_1 (pc := 4) hc dJ2_elementData_4 ?_
  refine cv_aaldr (pc := 5) (b := b) (i) hc (hd) (by decide) dJ2_elementData_5 (rfl) (by omega) (by omega) (hb) ?_
  exact wt_aret (pc := 6) hc hok dJ2_elementData_6 (Or.inl ⟨_, rfl⟩) (fun H hZ => ⟨rfl, hZ⟩)
theorem ct_J2_get (a d n c i b : Nat) (ha : B.1 a = some (.inl 11)) (hd : B.1 d = some (.inr (5, n))) (r1 : B.2.2.1 a 1 = some d) (hc0 : B.2.1 a 2 = nI c) (hi : i < c) (hcn : c ≤ n) (hn : n < 2 ^ 31) (hb : B.2.2.1 d i = some b) : wt_Ct l G yJ2_get cJ2_get 2 (some (.object "java/lang/Object")) 3 0 0 [.ref a, .int (nI i)] (cz G B) (wt_fr b (cz G B)) := by
  refine wt_enter [some (.ref a), some (.int (nI i))] (by decide +kernel) rfl (Nat.le_of_ble_eq_true rfl) (fun X hc hok => ?_)
  refine wt_iload_1 (pc := 0) hc dJ2_get_0 ?_
  refine wt_aload_0 (pc := 1) hc dJ2_get_1 ?_
  refine cv_geti (pc := 2) 2 (nI c) hc cP11 (ha) dJ2_get_2 q177 (by decide) (Or.inl rfl) (fun _ _ _ => rfl) (hc0) ?_
  refine wt_gofn (wt_invS (pc := 5) 2 hc (ct_J13_checkIndex i c hi (by omega)) dJ2_get_5 rfl q408 q409 q130 q410 (by decide +kernel) rfl (by first | decide | omega) (by decide) (Nat.le_of_ble_eq_true rfl) rfl) ?_
  refine wt_pop (pc := 8) hc dJ2_get_8 rfl ?_
  refine wt_aload_0 (pc := 9) hc dJ2_get_9 ?_
  refine wt_iload_1 (pc := 10) hc dJ2_get_10 ?_
  refine wt_gofr (wt_invV (pc := 11) 1 hc (ct_J2_elementData a d n i b ha hd r1 (by omega) hn hb) dJ2_get_11 rfl (fun s H => cz_recv cP11 (ha) s H) q454 q455 q456 q115 q457 (by decide +kernel) rfl (by first | decide | omega) (by decide) (Nat.le_of_ble_eq_true rfl) rfl) ?_
  exact wt_aret (pc := 14) hc hok dJ2_get_14 (Or.inl ⟨_, rfl⟩) (fun H hZ => ⟨rfl, hZ⟩)
theorem ct_J15_intValue (a : Nat) (ha : B.1 a = some (.inl 12)) : wt_Ct l G yJ15_intValue cJ15_intValue 1 (some .int) 1 0 0 [.ref a] (cz G B) (wt_fn (B.2.1 a 0) (cz G B)) := by
  refine wt_enter [some (.ref a)] (by decide +kernel) rfl (Nat.le_of_ble_eq_true rfl) (fun X hc hok => ?_)
  refine wt_aload_0 (pc := 0) hc dJ15_intValue_0 ?_
  refine cv_geti (pc := 1) 0 _ hc cP12 (ha) dJ15_intValue_1 q1071 (by decide) (Or.inl rfl) (fun _ _ _ => rfl) (rfl) ?_
  exact wt_iret (pc := 4) hc hok dJ15_intValue_4 (rfl) (fun H hZ => ⟨rfl, hZ⟩)
end JA
