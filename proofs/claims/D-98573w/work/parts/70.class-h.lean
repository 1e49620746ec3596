/-! CLASS ENGINE: arrays of objects are made, copied, cleared; class objects -/
set_option maxRecDepth 100000
/-- a row of references anew -/
def cRr (B : cB) (a : Nat) (f : Nat → Option Nat) : cB := (B.1, B.2.1, (fun x => if x = a then f else B.2.2.1 x), B.2.2.2)
/-- class objects -/
def cMi (G : wt_G) : Prop := (∃ mi : Nat, ∀ s : State, wt_Sx G s s.heap → va_Mi "[Ljava/lang/Object;" mi s) ∧ ∃ mi : Nat, ∀ s : State, wt_Sx G s s.heap → va_Mi "java/util/ArrayList" mi s
section CH
variable {l : Launch} {G : wt_G} {X : wt_X} {y : MethodName} {cc : ByteArray} {nL fr pc : Nat} {L : List (Option Value)} {st : List Value} {B : cB} {kc ks : Nat} {Z : Heap → Prop}
theorem cv_anewO {idx N : Nat} (hc : wt_Cx l G X y cc nL fr) (hAO : cAO G) (d : decode cc pc = .ok (.anewarray idx, 3)) (q : Cond.classLink y.cls idx "java/lang/Object" ∈ lw_all) (hN : N < 2 ^ 26) (h1 : 1 ≤ kc) (h2 : N ≤ ks)
    (kk : ∀ a, G.1 ≤ a → (∀ b, a ≤ b → B.1 b = none) → wt_V G X (pc + 3) L (.ref a :: st) (cz G (cN B a (.inr (5, N)))) (kc - 1) (ks - N)) : wt_V G X pc L (.int (nI N) :: st) (cz G B) kc ks := by
  obtain ⟨p, l', e, Rm, s, m, args, below, meth, c, Q⟩ := X
  obtain ⟨rfl, hx, hbb, hown, hts, hml, hlk, hnm, hf1, hf2, hn0, hSx⟩ := hc
  intro H locs cells slots ls hZ hS hcl hsl hl
  have en : (nI N).toNatClampNeg = N := nI_clamp (by omega)
  refine W.anew hx hbb hown (hts _ q) (hAO.2 s hSx) rfl d rfl (nI_pos (by omega)) (by rw [en]; omega) (by omega) (by rw [en]; omega) fun cA kA comp f1 f2 f3 f4 => ?_
  rw [en]
  have hA : cA = G.2.2.1 5 := by
    have h4 : va_RA s (G.2.2.1 5) (.object "java/lang/Object") := (hSx.1.2 5 _ rfl).2
    obtain ⟨kA', comp', -, -, -, h5⟩ := h4
    exact Option.some.inj (f1.symm.trans h5)
  subst hA
  generalize hH1 : H.push ({ cls := G.2.2.1 5, slots := Array.replicate N .null, vm := .none } : Cell) = H1
  have z1 : H1.size = H.size + 1 := by rw [← hH1, Array.size_push]
  have e1 : H1[H.size]? = some (arrV (G.2.2.1 5) N (fun _ => .null)) := by rw [← hH1, Array.getElem?_push_size, ← arrV_new]
  have o1 : ∀ q : Nat, q < H.size → H1[q]? = H[q]? := fun q hq => by rw [← hH1, Array.getElem?_push, if_neg (Nat.ne_of_lt hq)]
  have hS1 : va_S (fun q => G.1 ≤ q) s.heap H1 locs := ⟨Nat.le_trans hS.1 (by omega), fun x h1 h2 => (o1 x (Nat.lt_of_lt_of_le h1 hS.1)).trans (hS.2.1 x h1 h2), hS.2.2⟩
  exact kk H.size (Nat.le_trans hn0 hS.1) (cz_fresh hZ) H1 locs (cells + 1) (slots + N) ls (cN_hold hZ o1 ⟨by show 5 < 7; omega, e1⟩) hS1 (by omega) (by omega) hl
theorem cv_aastN {a n : Nat} {i : Int32} (j : Nat) (hc : wt_Cx l G X y cc nL fr) (hG : G.1 ≤ a) (hK : B.1 a = some (.inr (5, n))) (d : decode cc pc = .ok (.aastore, 1)) (hi : i = nI j) (hj : j < n) (hs : n < 2 ^ 31)
    (kk : wt_V G X (pc + 1) L st (cz G (cR B a j none)) kc ks) : wt_V G X pc L (.null :: .int i :: .ref a :: st) (cz G B) kc ks := by
  obtain ⟨p, l', e, Rm, s, m, args, below, meth, c, Q⟩ := X
  obtain ⟨rfl, hx, hbb, hown, hts, hml, hlk, hnm, hf1, hf2, hn0, hSx⟩ := hc
  intro H locs cells slots ls hZ hS hcl hsl hl
  subst hi
  have hh := hZ _ _ hK
  refine va_WaastN (C := "java/lang/Object") hx hbb hh.2 ((hSx.1.2 5 _ rfl).1 n _) (fun h => by cases h) (by show ¬ ((nI j) < 0 ∨ (arrV _ _ _).slots.size ≤ _); rw [arrV_size]; exact vp_in_nI hj hs) rfl rfl d fun H1 e1 z oq => ?_
  rw [nI_clamp (show j < 2 ^ 31 by omega)] at e1
  refine kk H1 _ cells slots ls (cz_put hZ oq rfl hK (fun b hb => ⟨rfl, wt_up2_row hb, rfl⟩) (wt_arr_put (R' := wt_up2 B.2.2.1 a j none a) hh e1 (by rw [wt_up2_self]; rfl) (fun b hb => ⟨rfl, wt_up2_ne (fun z => hb z.2), rfl⟩))) (hS.put z oq hG) hcl hsl hl
theorem cv_copyO {idx a0 a n0 n1 : Nat} (sp dp n : Nat) (hc : wt_Cx l G X y cc nL fr) (hGa : G.1 ≤ a) (K0 : B.1 a0 = some (.inr (5, n0))) (K1 : B.1 a = some (.inr (5, n1))) (d : decode cc pc = .ok (.invokestatic idx, 3)) (q1 : Cond.methodLink y.cls idx arraycopyName ∈ lw_all) (q2 : Cond.native arraycopyName ∈ lw_all) (q3 : Cond.static arraycopyName ∈ lw_all) (q4 : Cond.initialized "java/lang/System" ∈ lw_all) (h4 : sp + n ≤ n0) (h5 : dp + n ≤ n1) (hs0 : n0 < 2 ^ 31) (hs1 : n1 < 2 ^ 31)
    (hel : ∀ i, i < n → ∀ z, B.2.2.1 a0 (sp + i) = some z → ∃ x, B.1 z = some x ∧ Cond.castable (wt_nm x) "java/lang/Object" ∈ lw_tbl) (hfr : 1 ≤ fr) (hw : (st.map fun v => v.category).sum ≤ 8) (hL : L.length = nL)
    (kk : wt_V G X (pc + 3) L st (cz G (cRr B a (va_cpy (B.2.2.1 a0) (B.2.2.1 a) sp dp n))) kc ks) : wt_V G X pc L (.int (nI n) :: .int (nI dp) :: .ref a :: .int (nI sp) :: .ref a0 :: st) (cz G B) kc ks := by
  obtain ⟨p, l', e, Rm, s, m, args, below, meth, c, Q⟩ := X
  obtain ⟨rfl, hx, hbb, hown, hts, hml, hlk, hnm, hf1, hf2, hn0, hSx⟩ := hc
  intro H locs cells slots ls hZ hS hcl hsl hl T hT XX
  have g0 := (hZ _ _ K0).2
  have g1 := (hZ _ _ K1).2
  have e0 : (nI sp).toNatClampNeg = sp := nI_clamp (by omega)
  have e1 : (nI dp).toNatClampNeg = dp := nI_clamp (by omega)
  have e2 : (nI n).toNatClampNeg = n := nI_clamp (by omega)
  obtain ⟨-, kA, hkA, comp, hkk⟩ := (hSx.1.2 5 _ rfl).1 n1 (fun j => va_rf (B.2.2.1 a j))
  obtain ⟨kA', comp', r1, r2, r3, -⟩ := (hSx.1.2 5 _ rfl).2
  cases hkA.symm.trans r1
  cases hkk.symm.trans r2
  obtain ⟨vm', X', step⟩ := XX.arraycopy hx hown (hts _ q1) (hts _ q2) (hts _ q3) (hts _ q4) (src := a0) (dst := a) (cs := arrV (G.2.2.1 5) n0 (fun j => va_rf (B.2.2.1 a0 j))) (cd := arrV (G.2.2.1 5) n1 (fun j => va_rf (B.2.2.1 a j))) (srcPos := nI sp) (destPos := nI dp) (n := nI n) (by rw [hT]; exact g0) (by rw [hT]; exact g1)
    (fun _ h => by cases h) (fun _ h => by cases h) (fun h => by cases h) (fun h => by cases h) hkA hkA hkk hkk rfl (nI_pos (by omega)) (nI_pos (by omega)) (nI_pos (by omega))
    (by rw [arrV_size, nI_toInt (by omega), nI_toInt (by omega)]; omega)
    (by rw [arrV_size, nI_toInt (by omega), nI_toInt (by omega)]; omega)
    (fun vm₁ hal i hi => by
      rw [e2] at hi
      rw [e0]
      have e : (arrV (G.2.2.1 5) n0 (fun j => va_rf (B.2.2.1 a0 j))).slots.getD (sp + i) .null = va_rf (B.2.2.1 a0 (sp + i)) := by
        rw [Array.getD_eq_getD_getElem?, arrV_read _ _ (by omega)]
        rfl
      rw [e]
      cases hy : B.2.2.1 a0 (sp + i) with
      | none => exact ⟨rfl, trivial⟩
      | some z =>
        obtain ⟨x, hx1, hca⟩ := hel i hi z hy
        obtain ⟨cellV, u1, u2, u3, u4, kV, hkV⟩ := wt_recv hSx.1 (hZ _ _ hx1)
        obtain ⟨c0, t1, f1, f2, f3⟩ := Cond.castable_spec (va_Nw.use (A := args) rfl (hSx.2.1 _ hca rfl))
        cases u4.symm.trans f1
        cases r3.symm.trans f2
        obtain ⟨kE, hkE, -⟩ := Vm.findClass_spec r3
        obtain ⟨kC', hkC', -⟩ := hal.2.2 _ _ hkV
        obtain ⟨kE', hkE', -⟩ := hal.2.2 _ _ hkE
        refine ⟨rfl, cellV, (show T.heap[z]? = some cellV by rw [hT]; exact u1), (fun q h => by rw [h] at u2; cases u2), ⟨kC', hkC'⟩, ?_, ?_⟩
        · exact ⟨kE', hkE'⟩
        · show vm₁.assignable _ _ = true
          rw [hal.assignable]
          exact f3)
    (g := F0 m pc ls (.int (nI n) :: .int (nI dp) :: .ref a :: .int (nI sp) :: .ref a0 :: st)) rfl (by show ls.size = _; rw [hml, hl.1, hL]) (rest := st) rfl (by rw [hbb]; exact d) (by omega) (by show 2 * 0 + _ + (nativeFrameWords "java/lang/System" "arraycopy" 5 + 11) ≤ _; have hw2 : nativeFrameWords "java/lang/System" "arraycopy" 5 ≤ 30 := (by decide); omega)
  have ec : copied (arrV (G.2.2.1 5) n0 (fun j => va_rf (B.2.2.1 a0 j))) (arrV (G.2.2.1 5) n1 (fun j => va_rf (B.2.2.1 a j))) (nI sp) (nI dp) (nI n) = arrV (G.2.2.1 5) n1 (fun j => va_rf (va_cpy (B.2.2.1 a0) (B.2.2.1 a) sp dp n j)) := by
    have h0 := va_copied (fun z => va_rf z) (G.2.2.1 5) (G.2.2.1 5) (n0 := n0) (n1 := n1) (sp := (nI sp).toNatClampNeg) (dp := (nI dp).toNatClampNeg) (n := (nI n).toNatClampNeg) (B.2.2.1 a0) (B.2.2.1 a) (by rw [e0, e2]; exact h4)
    rw [e0, e1, e2] at h0
    show (arrV _ _ _).storeRun (nI dp).toNatClampNeg ((arrV _ _ _).stretch (nI sp).toNatClampNeg (nI n).toNatClampNeg) = _
    rw [e0, e1, e2]
    exact h0
  rw [ec] at X' step
  have hla : a < H.size := (Array.getElem?_eq_some_iff.mp g1).1
  generalize hcd : arrV (G.2.2.1 5) n1 (fun j => va_rf (va_cpy (B.2.2.1 a0) (B.2.2.1 a) sp dp n j)) = cd at X' step
  have hheap : ((T.setVm vm').setCell a cd).heap = H.setIfInBounds a cd := by rw [← hT]; rfl
  have oq : ∀ q : Nat, q ≠ a → (H.setIfInBounds a cd)[q]? = H[q]? := fun q hq => by simp [Array.getElem?_setIfInBounds, Ne.symm hq]
  have hZ1 : cz G (cRr B a (va_cpy (B.2.2.1 a0) (B.2.2.1 a) sp dp n)) (H.setIfInBounds a cd) := by
    refine cz_put hZ oq rfl K1 (fun b hb => ⟨rfl, if_neg hb, rfl⟩) ⟨by show 5 < 7; omega, ?_⟩
    show (H.setIfInBounds a cd)[a]? = _
    rw [show (cRr B a (va_cpy (B.2.2.1 a0) (B.2.2.1 a) sp dp n)).2.2.1 a = va_cpy (B.2.2.1 a0) (B.2.2.1 a) sp dp n from if_pos rfl]
    refine (show _ = some cd by simp [Array.getElem?_setIfInBounds, hla]).trans ?_
    rw [← hcd]
    rfl
  obtain ⟨t, a1, b1⟩ := kk _ _ cells slots ls hZ1 ⟨by simp; exact hS.1, fun q u1 u2 => by
      rw [oq q (fun e => u2 (by rw [e]; exact hGa))]
      exact hS.2.1 q u1 u2, fun q hq => by
      rcases List.mem_append.mp hq with h | h
      · exact hS.2.2 q h
      · obtain ⟨z, -, hz⟩ := List.mem_map.mp h
        rw [← hz]
        exact hGa⟩ hcl hsl hl _ hheap X'
  exact ⟨t, step t a1, b1⟩
theorem cv_ldcM {idx mi : Nat} {C : String} (hc : wt_Cx l G X y cc nL fr) (hM : ∀ s : State, wt_Sx G s s.heap → va_Mi C mi s) (d : decode cc pc = .ok (.ldc idx, 2)) (q : Cond.classLink y.cls idx C ∈ lw_all)
    (kk : wt_V G X (pc + 2) L (.ref mi :: st) Z kc ks) : wt_V G X pc L st Z kc ks := by
  obtain ⟨p, l', e, Rm, s, m, args, below, meth, c, Q⟩ := X
  obtain ⟨rfl, hx, hbb, hown, hts, hml, hlk, hnm, hf1, hf2, hn0, hSx⟩ := hc
  intro H locs cells slots ls hZ hS hcl hsl hl
  exact va_ldcM hx hbb hown (hts _ q) (hM s hSx) d (kk H locs cells slots ls hZ hS hcl hsl hl)
theorem cv_getC {idx a mi : Nat} {x : wt_kd} {C : String} (hc : wt_Cx l G X y cc nL fr) (hM : ∀ s : State, wt_Sx G s s.heap → va_Mi C mi s) (hK : B.1 a = some x) (hn : wt_nm x = C) (d : decode cc pc = .ok (.invokevirtual idx, 3)) (q1 : Cond.methodLink y.cls idx ⟨"java/lang/Object", "getClass", "()Ljava/lang/Class;"⟩ ∈ lw_all) (hdc : ∀ s : State, wt_Sx G s s.heap → va_Dc s) (q3 : Cond.selects C ⟨"java/lang/Object", "getClass", "()Ljava/lang/Class;"⟩ ⟨"java/lang/Object", "getClass", "()Ljava/lang/Class;"⟩ ∈ lw_all) (q4 : Cond.instanceMethod ⟨"java/lang/Object", "getClass", "()Ljava/lang/Class;"⟩ ∈ lw_all) (q5 : Cond.native ⟨"java/lang/Object", "getClass", "()Ljava/lang/Class;"⟩ ∈ lw_all) (hfr : 1 ≤ fr) (hw : (st.map fun v => v.category).sum ≤ 8) (hL : L.length = nL)
    (kk : wt_V G X (pc + 3) L (.ref mi :: st) (cz G B) kc ks) : wt_V G X pc L (.ref a :: st) (cz G B) kc ks := by
  obtain ⟨p, l', e, Rm, s, m, args, below, meth, c, Q⟩ := X
  obtain ⟨rfl, hx, hbb, hown, hts, hml, hlk, hnm, hf1, hf2, hn0, hSx⟩ := hc
  intro H locs cells slots ls hZ hS hcl hsl hl
  obtain ⟨cell, g1, g2, g3, g4, -⟩ := wt_recv hSx.1 (hZ _ _ hK)
  rw [hn] at g4
  exact va_getC hx hbb (by rw [hml, hl.1, hL]) hown (hts _ q1) (va_Dc.use (hdc s hSx)) (hts _ q3) (hts _ q4) (hts _ q5) (hM s hSx) ⟨cell, g1, g2, g4⟩ (by omega) (by omega) d (kk H locs cells slots ls hZ hS hcl hsl hl)
end CH
