/-! ENGINE: the words of throwing -/
set_option maxRecDepth 100000
theorem xt_at_NSE {s : State} {args : Array Value} (hts : ∀ w ∈ lw_all, w.before args s = true) (hwm : ∀ w ∈ lw_tbl, wt_wm w = true → va_Nw w s) : ∀ w ∈ vx_at0 "WingTrams" 3 "java/util/NoSuchElementException" ["java/lang/RuntimeException", "java/lang/Exception"], w.before args s = true := by
  intro w hw
  obtain ⟨h1, h2⟩ := List.mem_filter.mp hw
  simp only [Bundle.ownAtoms0, Bundle.throwableAtoms, Bundle.chain0Atoms, Bundle.passAtoms, List.mem_append, List.mem_cons, List.not_mem_nil, or_false, List.cons_append, List.nil_append, or_assoc] at h1
  rcases h1 with rfl | rfl | rfl | rfl | rfl | rfl | rfl | rfl | rfl | rfl | rfl | rfl | rfl | rfl | rfl | rfl | rfl | rfl | rfl | rfl | rfl | rfl | rfl | rfl | rfl | rfl | rfl | rfl | rfl | rfl | rfl | rfl | rfl | rfl | rfl | rfl | rfl | rfl | rfl | rfl | rfl | rfl | rfl | rfl | rfl | rfl | rfl | rfl | rfl | rfl | rfl | rfl | rfl
  · exact hts _ q117
  · exact hts _ q785
  · exact hts _ q794
  · exact hts _ q798
  · exact hts _ q801
  · exact hts _ q803
  · exact hts _ q786
  · exact hts _ q787
  · exact hts _ q152
  · exact hts _ q153
  · exact hts _ q788
  · exact hts _ q793
  · exact hts _ q799
  · exact hts _ q816
  · exact hts _ q775
  · exact hts _ q817
  · exact hts _ q777
  · exact hts _ q818
  · exact hts _ q779
  · exact hts _ q789
  · exact absurd h2 (by decide)
  · exact hts _ q791
  · exact absurd h2 (by decide)
  · exact hts _ q781
  · exact hts _ q1308
  · exact hts _ q1309
  · exact hts _ q1310
  · exact hts _ q808
  · exact va_Nw.use rfl (hwm _ q766 rfl)
  · exact hts _ q808
  · exact hts _ q809
  · exact hts _ q810
  · exact hts _ q811
  · exact va_Nw.use rfl (hwm _ q768 rfl)
  · exact hts _ q811
  · exact hts _ q812
  · exact hts _ q813
  · exact hts _ q786
  · exact va_Nw.use rfl (hwm _ q770 rfl)
  · exact hts _ q1307
  · exact hts _ q1299
  · exact va_Nw.use rfl (hwm _ q1300 rfl)
  · exact hts _ q1301
  · exact hts _ q797
  · exact hts _ q1302
  · exact hts _ q1303
  · exact hts _ q1304
  · exact hts _ q1305
  · exact absurd h2 (by decide)
  · exact absurd h2 (by decide)
  · exact hts _ q814
  · exact hts _ q783
  · exact hts _ q1306
theorem xt_at_IAE {s : State} {args : Array Value} (hts : ∀ w ∈ lw_all, w.before args s = true) (hwm : ∀ w ∈ lw_tbl, wt_wm w = true → va_Nw w s) : ∀ w ∈ vx_at0 "WingTrams" 9 "java/lang/IllegalArgumentException" ["java/lang/RuntimeException", "java/lang/Exception"], w.before args s = true := by
  intro w hw
  obtain ⟨h1, h2⟩ := List.mem_filter.mp hw
  simp only [Bundle.ownAtoms0, Bundle.throwableAtoms, Bundle.chain0Atoms, Bundle.passAtoms, List.mem_append, List.mem_cons, List.not_mem_nil, or_false, List.cons_append, List.nil_append, or_assoc] at h1
  rcases h1 with rfl | rfl | rfl | rfl | rfl | rfl | rfl | rfl | rfl | rfl | rfl | rfl | rfl | rfl | rfl | rfl | rfl | rfl | rfl | rfl | rfl | rfl | rfl | rfl | rfl | rfl | rfl | rfl | rfl | rfl | rfl | rfl | rfl | rfl | rfl | rfl | rfl | rfl | rfl | rfl | rfl | rfl | rfl | rfl | rfl | rfl | rfl | rfl | rfl | rfl | rfl | rfl | rfl
  · exact hts _ q117
  · exact hts _ q785
  · exact hts _ q794
  · exact hts _ q798
  · exact hts _ q801
  · exact hts _ q803
  · exact hts _ q786
  · exact hts _ q787
  · exact hts _ q152
  · exact hts _ q153
  · exact hts _ q788
  · exact hts _ q793
  · exact hts _ q799
  · exact hts _ q816
  · exact hts _ q775
  · exact hts _ q817
  · exact hts _ q777
  · exact hts _ q818
  · exact hts _ q779
  · exact hts _ q789
  · exact absurd h2 (by decide)
  · exact hts _ q791
  · exact absurd h2 (by decide)
  · exact hts _ q781
  · exact hts _ q805
  · exact hts _ q806
  · exact hts _ q807
  · exact hts _ q808
  · exact va_Nw.use rfl (hwm _ q766 rfl)
  · exact hts _ q808
  · exact hts _ q809
  · exact hts _ q810
  · exact hts _ q811
  · exact va_Nw.use rfl (hwm _ q768 rfl)
  · exact hts _ q811
  · exact hts _ q812
  · exact hts _ q813
  · exact hts _ q786
  · exact va_Nw.use rfl (hwm _ q770 rfl)
  · exact hts _ q804
  · exact hts _ q764
  · exact va_Nw.use rfl (hwm _ q765 rfl)
  · exact hts _ q772
  · exact hts _ q773
  · exact hts _ q774
  · exact hts _ q776
  · exact hts _ q778
  · exact hts _ q780
  · exact absurd h2 (by decide)
  · exact absurd h2 (by decide)
  · exact hts _ q814
  · exact hts _ q783
  · exact hts _ q782
/-- what a run carries of throwing -/
def cTh (l : Launch) (G : wt_G) : Prop := l.stackTraces = false ∧ (∀ s : State, wt_Sx G s s.heap → vx_Zq Bundle.tN "UNASSIGNED_STACK" Bundle.steD (fun q => G.1 ≤ q) s s.heap) ∧ ∀ s : State, wt_Sx G s s.heap → vx_Zq Bundle.tN "SUPPRESSED_SENTINEL" Bundle.listD (fun q => G.1 ≤ q) s s.heap
theorem cz_more {G : wt_G} {B : cB} {H H1 : Heap} (hZ : cz G B H) (h : ∀ q : Nat, q < H.size → H1[q]? = H[q]?) : cz G B H1 := fun a x ha => (hZ a x ha).kept (h a (hZ.lt ha))
section XU
variable {l : Launch} {G : wt_G} {y : MethodName} {cc : ByteArray} {nL fr pc : Nat} {X : wt_X} {L : List (Option Value)} {st : List Value} {B : cB} {kc ks : Nat} {Post : Option Value → Heap → Prop} {PX : String → Nat → Heap → Prop} {ret : Option FieldType}
theorem xt_throw {cls : String} {names : List String} {ik ic : Nat} (hc : wt_Cx l G X y cc nL fr) (hok : xt_ok G X ret Post PX) (hTh : cTh l G) (hcls : Bundle.fit cls = true) (hnames : ∀ n ∈ names, Bundle.fit n = true) (hk : Cond.classLink y.cls ik cls ∈ lw_all) (hini : Cond.initialized cls ∈ lw_all) (hat : ∀ (s : State) (args : Array Value), (∀ w ∈ lw_all, w.before args s = true) → (∀ w ∈ lw_tbl, wt_wm w = true → va_Nw w s) → ∀ w ∈ vx_at0 y.cls ic cls names, w.before args s = true) (hgood : ∀ w ∈ Cond.classLink y.cls ik cls :: Cond.initialized cls :: vx_at0 y.cls ic cls names, vx_ot w = true)
    (d0 : decode cc pc = .ok (.new ik, 3)) (d3 : decode cc (pc + 3) = .ok (.dup, 1)) (d4 : decode cc (pc + 4) = .ok (.invokespecial ic, 3)) (d7 : decode cc (pc + 7) = .ok (.athrow, 1)) (hn2 : names.length = 2) (hfr : 6 ≤ fr) (hw : (st.map fun v => v.category).sum ≤ 8) (hL : L.length = nL) (h1 : 1 ≤ kc) (h2 : 6 ≤ ks) (hp : ∀ q H, cz G B H → PX cls q H) : wt_V G X pc L st (cz G B) kc ks := by
  obtain ⟨p, l', e, Rm, s, m, args, below, meth, c, Q⟩ := X
  obtain ⟨rfl, hx, hbb, hown, hts, hml, hlk, hnm, hf1, hf2, hn0, hSx⟩ := hc
  obtain ⟨hr, rfl, ht⟩ := hok
  intro H locs cells slots ls hZ hS hcl hsl hl
  exact vx_throw0 hx hbb hTh.1 hown hcls hnames (hts _ hk) (hts _ hini) (hat s args hts hSx.2.1) hgood (hTh.2.1 s hSx) (hTh.2.2 s hSx) hS (by rw [hml, hl.1, hL]) d0 d3 d4 d7 (fun x hx => (ht x hx).elim) (by rw [hn2]; omega) (by rw [hn2]; omega) (by omega) (by omega) hlk (fun t _ z1 z2 => ⟨hp _ _ (cz_more hZ z2), Nat.le_trans hS.1 z1, fun z hz => by
    have hlt : z < H.size := Nat.lt_of_lt_of_le (Nat.lt_of_lt_of_le hz hn0) hS.1
    rw [z2 z hlt]
    exact hS.2.1 z (Nat.lt_of_lt_of_le hz hn0) (Nat.not_le.mpr hz)⟩) hS.2.2 (by omega) (by omega)
end XU
/-- what is thrown: E, nothing else has changed -/
def xt_PB (E : String) (Z : Heap → Prop) : String → Nat → Heap → Prop := fun E' _ H => E' = E ∧ Z H
abbrev xNSE : String := "java/util/NoSuchElementException"
abbrev xIAE : String := "java/lang/IllegalArgumentException"
/-- answers where P holds -/
def xt_pv (P : Prop) (Z : Heap → Prop) : Option Value → Heap → Prop := fun v H => P ∧ v = none ∧ Z H
def xt_pi (P : Prop) (i : Int32) (Z : Heap → Prop) : Option Value → Heap → Prop := fun v H => P ∧ v = some (.int i) ∧ Z H
def xt_pr (P : Prop) (r : Nat) (Z : Heap → Prop) : Option Value → Heap → Prop := fun v H => P ∧ v = some (.ref r) ∧ Z H
section XGP
variable {l : Launch} {G : wt_G} {y : MethodName} {cc : ByteArray} {nL fr pc : Nat} {X : wt_X} {L : List (Option Value)} {Z : Heap → Prop} {kc ks : Nat} {Post : Option Value → Heap → Prop} {PX : String → Nat → Heap → Prop} {ret : Option FieldType}
theorem xt_goPv {len mc ms : Nat} {st0 rest : List Value} {P : Prop} {Z' : Heap → Prop} {PX' : String → Nat → Heap → Prop} (hc : wt_Cx l G X y cc nL fr) (hok : xt_ok G X ret Post PX) (hr : xt_Run G X pc len L st0 rest Z (xt_pv P Z') PX' mc ms) (h1 : mc ≤ kc) (h2 : ms ≤ ks) (hx : ∀ E q H, PX' E q H → PX E q H) (k : P → wt_V G X (pc + len) L rest Z' (kc - mc) (ks - ms)) : wt_V G X pc L st0 Z kc ks := by
  refine xt_go hc hok hr h1 h2 hx (fun v => ?_)
  refine wt_ex (S := PLift (P ∧ v = none)) (Z' := fun _ => Z') (fun H h => ⟨⟨h.1, h.2.1⟩, h.2.2⟩) (fun u => ?_)
  rw [u.down.2]
  exact k u.down.1
theorem xt_goPi {len mc ms : Nat} {st0 rest : List Value} {P : Prop} {i : Int32} {Z' : Heap → Prop} {PX' : String → Nat → Heap → Prop} (hc : wt_Cx l G X y cc nL fr) (hok : xt_ok G X ret Post PX) (hr : xt_Run G X pc len L st0 rest Z (xt_pi P i Z') PX' mc ms) (h1 : mc ≤ kc) (h2 : ms ≤ ks) (hx : ∀ E q H, PX' E q H → PX E q H) (k : P → wt_V G X (pc + len) L (.int i :: rest) Z' (kc - mc) (ks - ms)) : wt_V G X pc L st0 Z kc ks := by
  refine xt_go hc hok hr h1 h2 hx (fun v => ?_)
  refine wt_ex (S := PLift (P ∧ v = some (.int i))) (Z' := fun _ => Z') (fun H h => ⟨⟨h.1, h.2.1⟩, h.2.2⟩) (fun u => ?_)
  rw [u.down.2]
  exact k u.down.1
theorem xt_goPr {len mc ms : Nat} {st0 rest : List Value} {P : Prop} {r : Nat} {Z' : Heap → Prop} {PX' : String → Nat → Heap → Prop} (hc : wt_Cx l G X y cc nL fr) (hok : xt_ok G X ret Post PX) (hr : xt_Run G X pc len L st0 rest Z (xt_pr P r Z') PX' mc ms) (h1 : mc ≤ kc) (h2 : ms ≤ ks) (hx : ∀ E q H, PX' E q H → PX E q H) (k : P → wt_V G X (pc + len) L (.ref r :: rest) Z' (kc - mc) (ks - ms)) : wt_V G X pc L st0 Z kc ks := by
  refine xt_go hc hok hr h1 h2 hx (fun v => ?_)
  refine wt_ex (S := PLift (P ∧ v = some (.ref r))) (Z' := fun _ => Z') (fun H h => ⟨⟨h.1, h.2.1⟩, h.2.2⟩) (fun u => ?_)
  rw [u.down.2]
  exact k u.down.1
end XGP
section XV
variable {l : Launch} {G : wt_G} {B : cB}
theorem ct_X1_found (hTh : cTh l G) (v : Int32) : xt_Ct l G yX1_found cX1_found 1 none 6 1 6 [.int v] (cz G B) (xt_pv (¬ v = 0) (cz G B)) (xt_PB xNSE (fun H => v = 0 ∧ cz G B H)) := by
  refine xt_enter [some (.int v)] (by decide +kernel) rfl (Nat.le_of_ble_eq_true rfl) (fun X hc hok => ?_)
  refine wt_iload_0 (pc := 0) hc dX1_found_0 ?_
  refine wt_if_ne (pc := 1) 12 hc dX1_found_1 (by decide) (fun c_1 => ?_) (fun c_1 => ?_)
  · refine xt_ret hc hok (fun X hc hok => ?_)
    exact wt_vret (pc := 12) hc hok dX1_found_12 (fun H hZ => ⟨c_1, rfl, hZ⟩)
  · exact xt_throw (pc := 4) hc hok hTh (by decide +kernel) (by decide +kernel) q1298 q144 (fun _ _ => xt_at_NSE) (by decide +kernel) dX1_found_4 dX1_found_7 dX1_found_8 dX1_found_11 rfl (by decide) (Nat.le_of_ble_eq_true rfl) rfl (by decide) (by decide) (fun q H hZ => ⟨rfl, c_1, hZ⟩)
theorem ct_X1_right (hTh : cTh l G) (v : Int32) : xt_Ct l G yX1_right cX1_right 1 none 6 1 6 [.int v] (cz G B) (xt_pv (¬ v = 0) (cz G B)) (xt_PB xIAE (fun H => v = 0 ∧ cz G B H)) := by
  refine xt_enter [some (.int v)] (by decide +kernel) rfl (Nat.le_of_ble_eq_true rfl) (fun X hc hok => ?_)
  refine wt_iload_0 (pc := 0) hc dX1_right_0 ?_
  refine wt_if_ne (pc := 1) 12 hc dX1_right_1 (by decide) (fun c_1 => ?_) (fun c_1 => ?_)
  · refine xt_ret hc hok (fun X hc hok => ?_)
    exact wt_vret (pc := 12) hc hok dX1_right_12 (fun H hZ => ⟨c_1, rfl, hZ⟩)
  · exact xt_throw (pc := 4) hc hok hTh (by decide +kernel) (by decide +kernel) q763 q120 (fun _ _ => xt_at_IAE) (by decide +kernel) dX1_right_4 dX1_right_7 dX1_right_8 dX1_right_11 rfl (by decide) (Nat.le_of_ble_eq_true rfl) rfl (by decide) (by decide) (fun q H hZ => ⟨rfl, c_1, hZ⟩)
end XV
