/-! ENGINE: methods that throw -/
set_option maxRecDepth 100000
def xt_Qx (G : wt_G) (PX : String → Nat → Heap → Prop) : String → Addr → State → State → Prop := fun E q st t => PX E q t.heap ∧ st.heap.size ≤ t.heap.size ∧ ∀ z : Nat, z < G.1 → t.heap[z]? = st.heap[z]?
/-- A CONTRACT of a method that returns or throws: thrown is an object q of the class E, on a heap with PX E q -/
def xt_Ct (l : Launch) (G : wt_G) (y : MethodName) (cc : ByteArray) (nL : Nat) (ret : Option FieldType) (fr mc ms : Nat) (As : List Value) (Z : Heap → Prop) (Post : Option Value → Heap → Prop) (PX : String → Nat → Heap → Prop) : Prop :=
  vx_Met l y (ws_ y cc nL ret) (wt_rm fr mc ms) (wt_Pc G As Z) (wt_Qc G Post) (xt_Qx G PX) mc ms (fun q => G.1 ≤ q)
def xt_ok (G : wt_G) (X : wt_X) (ret : Option FieldType) (Post : Option Value → Heap → Prop) (PX : String → Nat → Heap → Prop) : Prop :=
  match X with
  | (_, _, _, Rm, s, _, args, below, meth, c, Q) => meth.sig.returnType = ret ∧ Q = vx_MQ below (wt_Qc G Post) (xt_Qx G PX) args s Rm.cells Rm.slots (fun q => G.1 ≤ q) ∧ ∀ x ∈ c.exceptionTable.toList, False
def xt_Run (G : wt_G) (X : wt_X) (pc len : Nat) (L : List (Option Value)) (st0 rest : List Value) (Z : Heap → Prop) (Post : Option Value → Heap → Prop) (PX : String → Nat → Heap → Prop) (mc ms : Nat) : Prop :=
  match X with
  | (p, l, e, Rm, s, m, args, below, meth, c, _) => ∀ (H : Heap) (locs : List Loc) (cells slots : Nat) (ls : Array Slot), Z H → va_S (fun q => G.1 ≤ q) s.heap H locs → cells + mc ≤ Rm.cells → slots + ms ≤ Rm.slots → wt_lv ls L →
    ∀ T : State, T.heap = H → Stand p l e Rm s m args below meth c T locs cells slots →
      (∃ (v : Option Value) (T' : State) (L' : List Loc), Stand p l e Rm s m args below meth c T' (locs ++ L') (cells + mc) (slots + ms) ∧ va_S (fun q => G.1 ≤ q) s.heap T'.heap (locs ++ L') ∧ Post v T'.heap ∧ Goes p e below T (F0 m pc ls st0) T' (F0 m (pc + len) ls (v.toList ++ rest))) ∨
      ∃ (q : Addr) (T' : State) (L' : List Loc) (E : String) (ce : Cell), Stand p l e Rm s m args below meth c T' (locs ++ L') (cells + mc) (slots + ms) ∧ va_S (fun q => G.1 ≤ q) s.heap T'.heap (locs ++ L') ∧ PX E q T'.heap ∧ T'.heap[q]? = some ce ∧ ce.vm = .none ∧ s.vm.findClass E = some ce.cls ∧ Steps p.tables e below (T.setTop (F0 m pc ls st0)) ((T'.setTop (F0 m pc ls rest)).pushFrame (.throwing q))
section VXATH
variable {p : Program} {l : Launch} {e : Env} {R : Room} {s : State} {m : MethodId} {args : Array Value} {below : List Frame} {meth : Method} {c : Code} {H : Heap} {locs : List Loc} {cells slots : Nat} {Q : State → Prop}
variable {pc : Nat} {ls : Array Slot} {rest : List Value}
/-- 'throw x' of an object that was made before -/
theorem vx_athrow {cc : ByteArray} {pc : Nat} (hexec : p.tables.exec = Jvm.exec) (hb : c.code = cc) {q : Addr} (hdg : decode cc pc = .ok (.athrow, 1)) (k : vx_W p l e R s m args below meth c H locs cells slots Q (F0 m pc ls rest) q) : W p l e R s m args below meth c H locs cells slots Q (F0 m pc ls (.ref q :: rest)) := by
  intro T hT X
  obtain ⟨t, st, hq⟩ := k T hT X
  refine ⟨t, ?_, hq⟩
  have hdg' : decode c.code pc = .ok (.athrow, 1) := by rw [hb]; exact hdg
  jvm_step X.here [X.here.top, hexec, hdg', athrow.wp_sem]
  exact st
end VXATH
section XT
variable {l : Launch} {G : wt_G} {y : MethodName} {cc : ByteArray} {nL fr : Nat}
theorem xt_enter {ret : Option FieldType} {mc ms : Nat} {As : List Value} {Z : Heap → Prop} {Post : Option Value → Heap → Prop} {PX : String → Nat → Heap → Prop} (L0 : List (Option Value)) (hy : plainName y.cls = true) (hL : wt_pad nL As = L0) (hnl : (lg_sl As).length ≤ nL)
    (body : ∀ X : wt_X, wt_Cx l G X y cc nL fr → xt_ok G X ret Post PX → wt_V G X 0 L0 [] Z mc ms) : xt_Ct l G y cc nL ret fr mc ms As Z Post PX := by
  refine vx_ofW (cc := cc) (maxL := nL) (ret := ret) hy rfl ?_
  intro p e s m args below meth c s₁ B hml ht hv
  obtain ⟨rfl, hZ, hn0, hSx⟩ := hv
  have hts := atoms_spec (ws := ws_ y cc nL ret) B.pre
  have hts' : ∀ w ∈ lw_all, w.before _ s = true := fun w h => hts w (List.mem_cons_of_mem _ h)
  have k := body (p, l, e, wt_rm fr mc ms, s, m, As.toArray, below, meth, c, vx_MQ below (wt_Qc G Post) (xt_Qx G PX) As.toArray s mc ms (fun q => G.1 ≤ q)) ⟨rfl, B.exec, B.bytes, findClass_of_methodNamed B.named, hts', hml, B.notSynchronized, (name_of_methodNamed B.named B.method).1, Nat.le_refl _, Nat.le_refl _, hn0, hSx⟩ ⟨B.returns, rfl, ht⟩
  rw [lg_entry_eq]
  refine k s.heap [] 0 0 _ hZ va_S.rf (by simp) (by simp) ?_
  rw [← hL]
  exact wt_entry_lv hnl
variable {X : wt_X} {pc : Nat} {L : List (Option Value)} {st : List Value} {Z : Heap → Prop} {kc ks : Nat} {Post : Option Value → Heap → Prop} {PX : String → Nat → Heap → Prop} {ret : Option FieldType}
/-- it returns here -/
theorem xt_ret (hc : wt_Cx l G X y cc nL fr) (hok : xt_ok G X ret Post PX) (k : ∀ X' : wt_X, wt_Cx l G X' y cc nL fr → wt_ok G X' ret Post → wt_V G X' pc L st Z kc ks) : wt_V G X pc L st Z kc ks := by
  obtain ⟨p, l', e, Rm, s, m, args, below, meth, c, Q⟩ := X
  obtain ⟨hr, rfl, ht⟩ := hok
  intro H locs cells slots ls hZ hS hcl hsl hl
  exact vx_ret (k (p, l', e, Rm, s, m, args, below, meth, c, MQ below (wt_Qc G Post) args s Rm.cells Rm.slots (fun q => G.1 ≤ q)) hc ⟨hr, rfl⟩ H locs cells slots ls hZ hS hcl hsl hl)
/-- q goes on to the caller -/
theorem xt_out {p : Program} {l' : Launch} {e : Env} {Rm : Room} {s : State} {m : MethodId} {args : Array Value} {below : List Frame} {meth : Method} {c : Code} {Q : State → Prop} (hc : wt_Cx l G (p, l', e, Rm, s, m, args, below, meth, c, Q) y cc nL fr) (hok : xt_ok G (p, l', e, Rm, s, m, args, below, meth, c, Q) ret Post PX) {H : Heap} {locs : List Loc} {cells slots : Nat} {ls : Array Slot} {E : String} {q : Nat} {ce : Cell} (hS : va_S (fun q => G.1 ≤ q) s.heap H locs) (h1 : cells ≤ Rm.cells) (h2 : slots ≤ Rm.slots) (hcell : H[q]? = some ce) (hv : ce.vm = .none) (hcl : s.vm.findClass E = some ce.cls) (hp : PX E q H) : vx_W p l' e Rm s m args below meth c H locs cells slots Q (F0 m pc ls st) q := by
  obtain ⟨rfl, hx, hbb, hown, hts, hml, hlk, hnm, hf1, hf2, hn0, hSx⟩ := hc
  obtain ⟨hr, rfl, ht⟩ := hok
  exact vx_out (fun x hx => (ht x hx).elim) hlk hcell hv hcl (fun t ht _ => ⟨by rw [ht]; exact hp, by rw [ht]; exact hS.1, fun z hz => by rw [ht]; exact hS.2.1 z (Nat.lt_of_lt_of_le hz hn0) (Nat.not_le.mpr hz)⟩) hS.2.2 h1 h2
/-- a call that may throw, what it throws goes on -/
theorem xt_go {len mc ms : Nat} {st0 rest : List Value} {Post' : Option Value → Heap → Prop} {PX' : String → Nat → Heap → Prop} (hc : wt_Cx l G X y cc nL fr) (hok : xt_ok G X ret Post PX) (hr : xt_Run G X pc len L st0 rest Z Post' PX' mc ms) (h1 : mc ≤ kc) (h2 : ms ≤ ks) (hx : ∀ E q H, PX' E q H → PX E q H) (k : ∀ v : Option Value, wt_V G X (pc + len) L (v.toList ++ rest) (Post' v) (kc - mc) (ks - ms)) : wt_V G X pc L st0 Z kc ks := by
  obtain ⟨p, l', e, Rm, s, m, args, below, meth, c, Q⟩ := X
  intro H locs cells slots ls hZ hS hcl hsl hl T hT XX
  rcases hr H locs cells slots ls hZ hS (by omega) (by omega) hl T hT XX with ⟨v, T', L', X', hS', hp, st⟩ | ⟨q, T', L', E, ce, X', hS', hp, g1, g2, g3, st⟩
  · obtain ⟨t2, a1, b1⟩ := k v T'.heap (locs ++ L') (cells + mc) (slots + ms) ls hp hS' (by omega) (by omega) hl T' rfl X'
    exact ⟨t2, st t2 a1, b1⟩
  · obtain ⟨t2, a1, b1⟩ := xt_out (pc := pc) (st := rest) (ls := ls) hc hok hS' (cells := cells + mc) (slots := slots + ms) (by omega) (by omega) g1 g2 g3 (hx E q _ hp) T' rfl X'
    exact ⟨t2, st.trans a1, b1⟩
theorem xt_gov {len mc ms : Nat} {st0 rest : List Value} {P : Heap → Prop} {PX' : String → Nat → Heap → Prop} (hc : wt_Cx l G X y cc nL fr) (hok : xt_ok G X ret Post PX) (hr : xt_Run G X pc len L st0 rest Z (wt_pv P) PX' mc ms) (h1 : mc ≤ kc) (h2 : ms ≤ ks) (hx : ∀ E q H, PX' E q H → PX E q H) (k : wt_V G X (pc + len) L rest P (kc - mc) (ks - ms)) : wt_V G X pc L st0 Z kc ks := by
  refine xt_go hc hok hr h1 h2 hx (fun v => ?_)
  refine wt_ex (S := PLift (v = none)) (Z' := fun _ => P) (fun H h => ⟨⟨h.1⟩, h.2⟩) (fun u => ?_)
  rw [u.down]
  exact k
theorem xt_gofn {len mc ms : Nat} {st0 rest : List Value} {r : Int32} {P : Heap → Prop} {PX' : String → Nat → Heap → Prop} (hc : wt_Cx l G X y cc nL fr) (hok : xt_ok G X ret Post PX) (hr : xt_Run G X pc len L st0 rest Z (wt_fn r P) PX' mc ms) (h1 : mc ≤ kc) (h2 : ms ≤ ks) (hx : ∀ E q H, PX' E q H → PX E q H) (k : wt_V G X (pc + len) L (.int r :: rest) P (kc - mc) (ks - ms)) : wt_V G X pc L st0 Z kc ks := by
  refine xt_go hc hok hr h1 h2 hx (fun v => ?_)
  refine wt_ex (S := PLift (v = some (.int r))) (Z' := fun _ => P) (fun H h => ⟨⟨h.1⟩, h.2⟩) (fun u => ?_)
  rw [u.down]
  exact k
theorem xt_gofr {len mc ms : Nat} {st0 rest : List Value} {r : Nat} {P : Heap → Prop} {PX' : String → Nat → Heap → Prop} (hc : wt_Cx l G X y cc nL fr) (hok : xt_ok G X ret Post PX) (hr : xt_Run G X pc len L st0 rest Z (wt_fr r P) PX' mc ms) (h1 : mc ≤ kc) (h2 : ms ≤ ks) (hx : ∀ E q H, PX' E q H → PX E q H) (k : wt_V G X (pc + len) L (.ref r :: rest) P (kc - mc) (ks - ms)) : wt_V G X pc L st0 Z kc ks := by
  refine xt_go hc hok hr h1 h2 hx (fun v => ?_)
  refine wt_ex (S := PLift (v = some (.ref r))) (Z' := fun _ => P) (fun H h => ⟨⟨h.1⟩, h.2⟩) (fun u => ?_)
  rw [u.down]
  exact k
theorem xt_invV {y' : MethodName} {cc' : ByteArray} {nL' fr' mc ms idx : Nat} {ret' : Option FieldType} {b : Nat} {As rest st0 : List Value} {C : String} (n : Nat) (hc : wt_Cx l G X y cc nL fr) (hM : xt_Ct l G y' cc' nL' ret' fr' mc ms (.ref b :: As) Z Post PX) (d : decode cc pc = .ok (.invokevirtual idx, 3))
    (hst : st0 = As.reverse ++ .ref b :: rest) (hb : ∀ (s : State) (H : Heap), wt_Sx G s s.heap → Z H → ∃ cell : Cell, H[b]? = some cell ∧ cell.vm.isStatics = false ∧ s.vm.findClass C = some cell.cls)
    (q1 : Cond.methodLink y.cls idx y' ∈ lw_all) (q2 : Cond.instanceMethod y' ∈ lw_all) (q3 : Cond.selects C y' y' ∈ lw_all) (q4 : Cond.initialized C ∈ lw_all) (q5 : Cond.code y' cc' nL' ret' ∈ lw_all)
    (hd : y'.cls = C ∧ y'.cls ≠ "java/lang/invoke/MethodHandle" ∧ y'.cls ≠ "java/lang/invoke/VarHandle" ∧ (parseMethodDescriptor y'.desc).map (fun d => d.parameters.length) = some n) (hn : As.length = n) (hfr : fr' < fr) (hnl : nL' ≤ 45) (hw : (rest.map fun v => v.category).sum ≤ 8) (hL : L.length = nL) : xt_Run G X pc 3 L st0 rest Z Post PX mc ms := by
  obtain ⟨p, l', e, Rm, s, m, args, below, meth, c, Q⟩ := X
  obtain ⟨rfl, hx, hbb, hown, hts, hml, hlk, hnm, hf1, hf2, hn0, hSx⟩ := hc
  intro H locs cells slots ls hZ hS hcl hsl hl T hT XX
  have cw : CallW Rm s args y.cls C idx y' cc' nL' ret' (ws_ y' cc' nL' ret') (wt_rm fr' mc ms) mc ms n := cwV n hts (lw_V q1 q2 q3 q4 q5) rfl rfl rfl hd ⟨by show fr' + 1 ≤ _; omega, by show 8 + (nL' + 11) + 64 * fr' ≤ _; omega⟩
  have hr := vx_runV (e := e) (below := below) (meth := meth) (g := F0 m pc ls st0) (H := H) (locs := locs) (cells := cells) (slots := slots) (rest := rest) ⟨hx, hbb, hml, hown, hts⟩ hM cw ⟨wt_blind, hb s H hSx hZ, fun U hU hW => ⟨rfl, by rw [hU]; exact hZ, wt_Sx_at hn0 hSx hS hU hW⟩⟩ rfl hn (hl.1.trans hL) hst (lv_room hw) d ⟨hcl, hsl⟩
  rcases hr T hT XX with ⟨v, st₀, t, T', L', h0, X', hL', e1, e2, ⟨v', hv', hp, hz, hk⟩, st⟩ | ⟨q, st₀, t, T', L', E, ce, h0, X', hL', e1, e2, ⟨hp, hz, hk⟩, g1, g2, g3, st⟩
  · cases hv'
    rw [h0] at hz hk
    rw [← e1] at hp hz hk
    exact Or.inl ⟨v, T', L', X', wt_S_back hn0 hS hz hk hL', hp, st⟩
  · rw [h0] at hz hk
    rw [← e1] at hp hz hk g1
    exact Or.inr ⟨q, T', L', E, ce, X', wt_S_back hn0 hS hz hk hL', hp, g1, g2, g3, st⟩
theorem xt_invS {y' : MethodName} {cc' : ByteArray} {nL' fr' mc ms idx : Nat} {ret' : Option FieldType} {As rest st0 : List Value} (n : Nat) (hc : wt_Cx l G X y cc nL fr) (hM : xt_Ct l G y' cc' nL' ret' fr' mc ms As Z Post PX) (d : decode cc pc = .ok (.invokestatic idx, 3))
    (hst : st0 = As.reverse ++ rest)
    (q1 : Cond.methodLink y.cls idx y' ∈ lw_all) (q2 : Cond.static y' ∈ lw_all) (q3 : Cond.initialized y'.cls ∈ lw_all) (q4 : Cond.code y' cc' nL' ret' ∈ lw_all)
    (hd : y'.cls ≠ "java/lang/invoke/MethodHandle" ∧ y'.cls ≠ "java/lang/invoke/VarHandle" ∧ (parseMethodDescriptor y'.desc).map (fun d => d.parameters.length) = some n) (hn : As.length = n) (hfr : fr' < fr) (hnl : nL' ≤ 45) (hw : (rest.map fun v => v.category).sum ≤ 8) (hL : L.length = nL) : xt_Run G X pc 3 L st0 rest Z Post PX mc ms := by
  obtain ⟨p, l', e, Rm, s, m, args, below, meth, c, Q⟩ := X
  obtain ⟨rfl, hx, hbb, hown, hts, hml, hlk, hnm, hf1, hf2, hn0, hSx⟩ := hc
  intro H locs cells slots ls hZ hS hcl hsl hl T hT XX
  have cw := va_cwS (R := Rm) (own := y.cls) (index := idx) (y := y') (bytes := cc') (maxL := nL') (ret := ret') (rm := wt_rm fr' mc ms) (mc := mc) (ms := ms) n hts (lw_S q1 q2 q3 q4) rfl rfl rfl hd ⟨by show fr' + 1 ≤ _; omega, by show 8 + (nL' + 11) + 64 * fr' ≤ _; omega⟩
  have hr := vx_runS (e := e) (below := below) (meth := meth) (g := F0 m pc ls st0) (H := H) (locs := locs) (cells := cells) (slots := slots) (rest := rest) ⟨hx, hbb, hml, hown, hts⟩ hM cw ⟨wt_blind, fun U hU hW => ⟨rfl, by rw [hU]; exact hZ, wt_Sx_at hn0 hSx hS hU hW⟩⟩ rfl hn (hl.1.trans hL) hst (lv_room hw) d ⟨hcl, hsl⟩
  rcases hr T hT XX with ⟨v, st₀, t, T', L', h0, X', hL', e1, e2, ⟨v', hv', hp, hz, hk⟩, st⟩ | ⟨q, st₀, t, T', L', E, ce, h0, X', hL', e1, e2, ⟨hp, hz, hk⟩, g1, g2, g3, st⟩
  · cases hv'
    rw [h0] at hz hk
    rw [← e1] at hp hz hk
    exact Or.inl ⟨v, T', L', X', wt_S_back hn0 hS hz hk hL', hp, st⟩
  · rw [h0] at hz hk
    rw [← e1] at hp hz hk g1
    exact Or.inr ⟨q, T', L', E, ce, X', wt_S_back hn0 hS hz hk hL', hp, g1, g2, g3, st⟩
/-- athrow of an object that stands -/
theorem xt_athrow {B : cB} {q ci N : Nat} {C : String} {T : u_T} (hc : wt_Cx l G X y cc nL fr) (hok : xt_ok G X ret Post PX) (hP : cP ci C T N) (hK : B.1 q = some (.inl ci)) (d : decode cc pc = .ok (.athrow, 1)) (hp : ∀ H, cz G B H → PX C q H) : wt_V G X pc L (.ref q :: st) (cz G B) kc ks := by
  have hc0 := hc
  obtain ⟨p, l', e, Rm, s, m, args, below, meth, c, Q⟩ := X
  obtain ⟨-, hx, hbb, hown, hts, hml, hlk, hnm, hf1, hf2, hn0, hSx⟩ := hc
  intro H locs cells slots ls hZ hS hcl hsl hl
  obtain ⟨cell, g1, g2, g3, g4, -⟩ := wt_recv hSx.1 (hZ _ _ hK)
  have hn : wt_nm (.inl ci) = C := by
    show (match wt_cl[ci]? with | some q => q.1 | none => "") = C
    rw [hP.1]
  rw [hn] at g4
  exact vx_athrow hx hbb d (xt_out (st := st) hc0 hok hS (by omega) (by omega) g1 g3 g4 (hp H hZ))
end XT
