/-! ENGINE: contracts and calls -/
set_option maxRecDepth 100000
def wt_Qc (G : wt_G) (Post : Option Value → Heap → Prop) : Array Value → State → Outcome → State → Prop := fun _ st o t => ∃ v : Option Value, o = .returned v ∧ Post v t.heap ∧ st.heap.size ≤ t.heap.size ∧ ∀ q : Nat, q < G.1 → t.heap[q]? = st.heap[q]?
def wt_Pc (G : wt_G) (As : List Value) (Z : Heap → Prop) : Array Value → State → Prop := va_Pc As (fun U => Z U.heap ∧ G.1 ≤ U.heap.size ∧ wt_Sx G U U.heap)
abbrev wt_rm (fr mc ms : Nat) : Room := { frames := fr, cells := mc, slots := ms, locals := 64 * fr }
/-- A CONTRACT: called with As on a heap of the kind Z, the method returns some v on a heap of the kind Post v; it makes at most mc cells of ms slots, goes fr frames deep -/
def wt_Ct (l : Launch) (G : wt_G) (y : MethodName) (cc : ByteArray) (nL : Nat) (ret : Option FieldType) (fr mc ms : Nat) (As : List Value) (Z : Heap → Prop) (Post : Option Value → Heap → Prop) : Prop :=
  Met l y (ws_ y cc nL ret) (wt_rm fr mc ms) (wt_Pc G As Z) (wt_Qc G Post) mc ms (fun q => G.1 ≤ q)
theorem wt_blind {G : wt_G} {As : List Value} {Z : Heap → Prop} : FrameBlind (wt_Pc G As Z) := fun a U g mk h => by
  obtain ⟨h1, h2, h3, h4⟩ := h
  exact ⟨h1, h2, h3, wt_Sx.moved (u := U) (U := U.calling g mk a) (H := U.heap) (H1 := U.heap) (State.WarmedH.refl U) (fun _ _ _ => rfl) h4⟩
/-- answers of a kind -/
def wt_pi (P : Int32 → Heap → Prop) : Option Value → Heap → Prop := fun v H => ∃ r : Int32, v = some (.int r) ∧ P r H
def wt_pl (P : Int64 → Heap → Prop) : Option Value → Heap → Prop := fun v H => ∃ r : Int64, v = some (.long r) ∧ P r H
def wt_pv (P : Heap → Prop) : Option Value → Heap → Prop := fun v H => v = none ∧ P H
def wt_pr (P : Nat → Heap → Prop) : Option Value → Heap → Prop := fun v H => ∃ r : Nat, v = some (.ref r) ∧ P r H
/-- how the method that is walked is to end -/
def wt_ok (G : wt_G) (X : wt_X) (ret : Option FieldType) (Post : Option Value → Heap → Prop) : Prop :=
  match X with
  | (_, _, _, Rm, s, _, args, below, meth, _, Q) => meth.sig.returnType = ret ∧ Q = MQ below (wt_Qc G Post) args s Rm.cells Rm.slots (fun q => G.1 ≤ q)
def wt_sl (As : List Value) : List (Option Value) := As.flatMap fun v => if v.category = 2 then [some v, none] else [some v]
def wt_pad (n : Nat) (As : List Value) : List (Option Value) := wt_sl As ++ List.replicate (n - (lg_sl As).length) none
theorem wt_sl_len (As : List Value) : (wt_sl As).length = (lg_sl As).length := by
  induction As with
  | nil => rfl
  | cons v vs ih =>
    simp only [wt_sl, lg_sl, List.flatMap_cons, List.length_append] at ih ⊢
    rw [ih]
    by_cases h : v.category = 2 <;> simp [h]
theorem wt_sl_at : ∀ (As : List Value) (b i : Nat) (v : Value), (wt_sl As)[i]? = some (some v) → (b + i, v) ∈ lv_args b As
  | [], b, i, v, h => by simp [wt_sl] at h
  | w :: ws, b, i, v, h => by
    have ih := wt_sl_at ws
    by_cases hc : w.category = 2
    · simp only [wt_sl, List.flatMap_cons, hc, if_true] at h
      simp only [lv_args, hc, if_true]
      match i, h with
      | 0, h => simp at h; rw [h]; exact List.mem_cons_self
      | 1, h => simp at h
      | i + 2, h =>
        have h' : (wt_sl ws)[i]? = some (some v) := by simpa [wt_sl] using h
        have := ih (b + 2) i v h'
        rw [show b + (i + 2) = b + 2 + i by omega]
        exact List.mem_cons_of_mem _ this
    · simp only [wt_sl, List.flatMap_cons, hc, if_false] at h
      simp only [lv_args, hc, if_false]
      match i, h with
      | 0, h => simp at h; rw [h]; exact List.mem_cons_self
      | i + 1, h =>
        have h' : (wt_sl ws)[i]? = some (some v) := by simpa [wt_sl] using h
        have := ih (b + 1) i v h'
        rw [show b + (i + 1) = b + 1 + i by omega]
        exact List.mem_cons_of_mem _ this
theorem wt_entry_lv {nL : Nat} {As : List Value} (h : (lg_sl As).length ≤ nL) : wt_lv ((lg_sl As ++ List.replicate (nL - (lg_sl As).length) Slot.unset).toArray) (wt_pad nL As) := by
  have e := lv_entry As h
  refine ⟨?_, e.2.1, fun i v hv => ?_⟩
  · rw [e.1]
    unfold wt_pad
    rw [List.length_append, List.length_replicate, wt_sl_len]
    omega
  · refine e.2.2 (i, v) ?_
    unfold wt_pad at hv
    by_cases hi : i < (wt_sl As).length
    · rw [List.getElem?_append_left hi] at hv
      have := wt_sl_at As 0 i v hv
      rwa [Nat.zero_add] at this
    · rw [List.getElem?_append_right (by omega)] at hv
      have := List.mem_of_getElem? hv
      have h2 := (List.mem_replicate.mp this).2
      cases h2
section WTC
variable {l : Launch} {G : wt_G} {y : MethodName} {cc : ByteArray} {nL fr : Nat}
/-- a contract out of a walk of the body -/
theorem wt_enter {ret : Option FieldType} {mc ms : Nat} {As : List Value} {Z : Heap → Prop} {Post : Option Value → Heap → Prop} (L0 : List (Option Value)) (hy : plainName y.cls = true) (hL : wt_pad nL As = L0) (hnl : (lg_sl As).length ≤ nL)
    (body : ∀ X : wt_X, wt_Cx l G X y cc nL fr → wt_ok G X ret Post → wt_V G X 0 L0 [] Z mc ms) : wt_Ct l G y cc nL ret fr mc ms As Z Post := by
  refine Met.ofW (cc := cc) (maxL := nL) (ret := ret) hy rfl ?_
  intro p e s m args below meth c s₁ B hml hv
  obtain ⟨rfl, hZ, hn0, hSx⟩ := hv
  have hts := atoms_spec (ws := ws_ y cc nL ret) B.pre
  have hts' : ∀ w ∈ lw_all, w.before _ s = true := fun w h => hts w (List.mem_cons_of_mem _ h)
  have k := body (p, l, e, wt_rm fr mc ms, s, m, As.toArray, below, meth, c, MQ below (wt_Qc G Post) As.toArray s mc ms (fun q => G.1 ≤ q)) ⟨rfl, B.exec, B.bytes, findClass_of_methodNamed B.named, hts', hml, B.notSynchronized, (name_of_methodNamed B.named B.method).1, Nat.le_refl _, Nat.le_refl _, hn0, hSx⟩ ⟨B.returns, rfl⟩
  rw [lg_entry_eq]
  refine k s.heap [] 0 0 _ hZ va_S.rf (by simp) (by simp) ?_
  rw [← hL]
  exact wt_entry_lv hnl
variable {X : wt_X} {pc : Nat} {L : List (Option Value)} {st : List Value} {Z : Heap → Prop} {kc ks : Nat} {Post : Option Value → Heap → Prop}
theorem wt_end_Q {H : Heap} {s : State} {locs : List Loc} {v : Option Value} {args : Array Value} (hn : G.1 ≤ s.heap.size) (hS : va_S (fun q => G.1 ≤ q) s.heap H locs) (h : Post v H) (t : State) (ht : t.heap = H) : wt_Qc G Post args s (.returned v) t := by
  refine ⟨v, rfl, by rw [ht]; exact h, by rw [ht]; exact hS.1, fun q hq => ?_⟩
  rw [ht]
  exact hS.2.1 q (Nat.lt_of_lt_of_le hq hn) (Nat.not_le.mpr hq)
theorem wt_iret {v : Int32} {ty : FieldType} (hc : wt_Cx l G X y cc nL fr) (hok : wt_ok G X (some ty) Post) (d : decode cc pc = .ok (.ireturn, 1)) (hn : narrow ty (.int v) = .int v) (h : ∀ H, Z H → Post (some (.int v)) H) : wt_V G X pc L [.int v] Z kc ks := by
  obtain ⟨p, l', e, Rm, s, m, args, below, meth, c, Q⟩ := X
  obtain ⟨-, hx, hb, hown, hts, hml, hlk, -, -, -, hn0, -⟩ := hc
  obtain ⟨hr, rfl⟩ := hok
  intro H locs cells slots ls hZ hS hcl hsl hl
  refine W.widen (k := Rm.cells) (n := Rm.slots) (by omega) (by omega) ?_
  exact W.zret hx hb hr hn (fun t ht _ => wt_end_Q hn0 hS (h H hZ) t ht) hS.2.2 d hlk
theorem wt_vret (hc : wt_Cx l G X y cc nL fr) (hok : wt_ok G X none Post) (d : decode cc pc = .ok (.return_, 1)) (h : ∀ H, Z H → Post none H) : wt_V G X pc L [] Z kc ks := by
  obtain ⟨p, l', e, Rm, s, m, args, below, meth, c, Q⟩ := X
  obtain ⟨-, hx, hb, hown, hts, hml, hlk, -, -, -, hn0, -⟩ := hc
  obtain ⟨hr, rfl⟩ := hok
  intro H locs cells slots ls hZ hS hcl hsl hl
  refine W.widen (k := Rm.cells) (n := Rm.slots) (by omega) (by omega) ?_
  exact W.vret hx hb hr (fun t ht _ => wt_end_Q hn0 hS (h H hZ) t ht) hS.2.2 d hlk
theorem wt_lret {v : Int64} (hc : wt_Cx l G X y cc nL fr) (hok : wt_ok G X (some .long) Post) (d : decode cc pc = .ok (.lreturn, 1)) (h : ∀ H, Z H → Post (some (.long v)) H) : wt_V G X pc L [.long v] Z kc ks := by
  obtain ⟨p, l', e, Rm, s, m, args, below, meth, c, Q⟩ := X
  obtain ⟨-, hx, hb, hown, hts, hml, hlk, -, -, -, hn0, -⟩ := hc
  obtain ⟨hr, rfl⟩ := hok
  intro H locs cells slots ls hZ hS hcl hsl hl
  refine W.widen (k := Rm.cells) (n := Rm.slots) (by omega) (by omega) ?_
  exact W.lret hx hb hr (fun t ht _ => wt_end_Q hn0 hS (h H hZ) t ht) hS.2.2 d hlk
theorem wt_aret {a : Nat} {rt : FieldType} (hc : wt_Cx l G X y cc nL fr) (hok : wt_ok G X (some rt) Post) (d : decode cc pc = .ok (.areturn, 1)) (hrt : (∃ n, rt = .object n) ∨ ∃ t, rt = .array t) (h : ∀ H, Z H → Post (some (.ref a)) H) : wt_V G X pc L [.ref a] Z kc ks := by
  obtain ⟨p, l', e, Rm, s, m, args, below, meth, c, Q⟩ := X
  obtain ⟨-, hx, hb, hown, hts, hml, hlk, -, -, -, hn0, -⟩ := hc
  obtain ⟨hr, rfl⟩ := hok
  intro H locs cells slots ls hZ hS hcl hsl hl
  refine W.widen (k := Rm.cells) (n := Rm.slots) (by omega) (by omega) ?_
  exact W.aret hx hb hr hrt (Or.inr ⟨a, rfl⟩) (fun t ht _ => wt_end_Q hn0 hS (h H hZ) t ht) hS.2.2 d hlk
/-- a call that comes back -/
def wt_Run (G : wt_G) (X : wt_X) (pc len : Nat) (L : List (Option Value)) (st0 rest : List Value) (Z : Heap → Prop) (Post : Option Value → Heap → Prop) (mc ms : Nat) : Prop :=
  match X with
  | (p, l, e, Rm, s, m, args, below, meth, c, _) => ∀ (H : Heap) (locs : List Loc) (cells slots : Nat) (ls : Array Slot), Z H → va_S (fun q => G.1 ≤ q) s.heap H locs → cells + mc ≤ Rm.cells → slots + ms ≤ Rm.slots → wt_lv ls L →
    ∀ T : State, T.heap = H → Stand p l e Rm s m args below meth c T locs cells slots → ∃ (v : Option Value) (T' : State) (L' : List Loc), Stand p l e Rm s m args below meth c T' (locs ++ L') (cells + mc) (slots + ms) ∧ va_S (fun q => G.1 ≤ q) s.heap T'.heap (locs ++ L') ∧ Post v T'.heap ∧
      Goes p e below T (F0 m pc ls st0) T' (F0 m (pc + len) ls (v.toList ++ rest))
theorem wt_go {len mc ms : Nat} {st0 rest : List Value} (hr : wt_Run G X pc len L st0 rest Z Post mc ms) (h1 : mc ≤ kc) (h2 : ms ≤ ks) (k : ∀ v : Option Value, wt_V G X (pc + len) L (v.toList ++ rest) (Post v) (kc - mc) (ks - ms)) : wt_V G X pc L st0 Z kc ks := by
  obtain ⟨p, l', e, Rm, s, m, args, below, meth, c, Q⟩ := X
  intro H locs cells slots ls hZ hS hcl hsl hl T hT XX
  obtain ⟨v, T', L', X', hS', hp, st⟩ := hr H locs cells slots ls hZ hS (by omega) (by omega) hl T hT XX
  obtain ⟨t2, a1, b1⟩ := k v T'.heap (locs ++ L') (cells + mc) (slots + ms) ls hp hS' (by omega) (by omega) hl T' rfl X'
  exact ⟨t2, st t2 a1, b1⟩
theorem wt_goi {len mc ms : Nat} {st0 rest : List Value} {P : Int32 → Heap → Prop} (hr : wt_Run G X pc len L st0 rest Z (wt_pi P) mc ms) (h1 : mc ≤ kc) (h2 : ms ≤ ks) (k : ∀ r : Int32, wt_V G X (pc + len) L (.int r :: rest) (P r) (kc - mc) (ks - ms)) : wt_V G X pc L st0 Z kc ks := by
  obtain ⟨p, l', e, Rm, s, m, args, below, meth, c, Q⟩ := X
  intro H locs cells slots ls hZ hS hcl hsl hl T hT XX
  obtain ⟨v, T', L', X', hS', ⟨r, rfl, hp⟩, st⟩ := hr H locs cells slots ls hZ hS (by omega) (by omega) hl T hT XX
  obtain ⟨t2, a1, b1⟩ := k r T'.heap (locs ++ L') (cells + mc) (slots + ms) ls hp hS' (by omega) (by omega) hl T' rfl X'
  exact ⟨t2, st t2 a1, b1⟩
theorem wt_gol {len mc ms : Nat} {st0 rest : List Value} {P : Int64 → Heap → Prop} (hr : wt_Run G X pc len L st0 rest Z (wt_pl P) mc ms) (h1 : mc ≤ kc) (h2 : ms ≤ ks) (k : ∀ r : Int64, wt_V G X (pc + len) L (.long r :: rest) (P r) (kc - mc) (ks - ms)) : wt_V G X pc L st0 Z kc ks := by
  obtain ⟨p, l', e, Rm, s, m, args, below, meth, c, Q⟩ := X
  intro H locs cells slots ls hZ hS hcl hsl hl T hT XX
  obtain ⟨v, T', L', X', hS', ⟨r, rfl, hp⟩, st⟩ := hr H locs cells slots ls hZ hS (by omega) (by omega) hl T hT XX
  obtain ⟨t2, a1, b1⟩ := k r T'.heap (locs ++ L') (cells + mc) (slots + ms) ls hp hS' (by omega) (by omega) hl T' rfl X'
  exact ⟨t2, st t2 a1, b1⟩
theorem wt_gor {len mc ms : Nat} {st0 rest : List Value} {P : Nat → Heap → Prop} (hr : wt_Run G X pc len L st0 rest Z (wt_pr P) mc ms) (h1 : mc ≤ kc) (h2 : ms ≤ ks) (k : ∀ r : Nat, wt_V G X (pc + len) L (.ref r :: rest) (P r) (kc - mc) (ks - ms)) : wt_V G X pc L st0 Z kc ks := by
  obtain ⟨p, l', e, Rm, s, m, args, below, meth, c, Q⟩ := X
  intro H locs cells slots ls hZ hS hcl hsl hl T hT XX
  obtain ⟨v, T', L', X', hS', ⟨r, rfl, hp⟩, st⟩ := hr H locs cells slots ls hZ hS (by omega) (by omega) hl T hT XX
  obtain ⟨t2, a1, b1⟩ := k r T'.heap (locs ++ L') (cells + mc) (slots + ms) ls hp hS' (by omega) (by omega) hl T' rfl X'
  exact ⟨t2, st t2 a1, b1⟩
theorem wt_gov {len mc ms : Nat} {st0 rest : List Value} {P : Heap → Prop} (hr : wt_Run G X pc len L st0 rest Z (wt_pv P) mc ms) (h1 : mc ≤ kc) (h2 : ms ≤ ks) (k : wt_V G X (pc + len) L rest P (kc - mc) (ks - ms)) : wt_V G X pc L st0 Z kc ks := by
  obtain ⟨p, l', e, Rm, s, m, args, below, meth, c, Q⟩ := X
  intro H locs cells slots ls hZ hS hcl hsl hl T hT XX
  obtain ⟨v, T', L', X', hS', ⟨rfl, hp⟩, st⟩ := hr H locs cells slots ls hZ hS (by omega) (by omega) hl T hT XX
  obtain ⟨t2, a1, b1⟩ := k T'.heap (locs ++ L') (cells + mc) (slots + ms) ls hp hS' (by omega) (by omega) hl T' rfl X'
  exact ⟨t2, st t2 a1, b1⟩
/-- what comes back from a call leaves the old cells as they were -/
theorem wt_S_back {s : State} {H H1 : Heap} {locs L' : List Loc} (hn : G.1 ≤ s.heap.size) (hS : va_S (fun q => G.1 ≤ q) s.heap H locs) (hz : H.size ≤ H1.size) (hk : ∀ q : Nat, q < G.1 → H1[q]? = H[q]?) (hL : ∀ q ∈ L', G.1 ≤ q.base) : va_S (fun q => G.1 ≤ q) s.heap H1 (locs ++ L') := by
  refine ⟨Nat.le_trans hS.1 hz, fun q h1 h2 => ?_, fun q hq => ?_⟩
  · rw [hk q (Nat.not_le.mp h2)]
    exact hS.2.1 q h1 h2
  · rcases List.mem_append.mp hq with h | h
    · exact hS.2.2 q h
    · exact hL q h
theorem wt_Sx_at {s U : State} {H : Heap} {locs : List Loc} (hn : G.1 ≤ s.heap.size) (hSx : wt_Sx G s s.heap) (hS : va_S (fun q => G.1 ≤ q) s.heap H locs) (hU : U.heap = H) (hW : s.WarmedH U.vm) : G.1 ≤ U.heap.size ∧ wt_Sx G U U.heap := by
  subst hU
  exact ⟨Nat.le_trans hn hS.1, wt_Sx.moved hW (fun a h1 h2 => hS.2.1 a h1 (Nat.not_le.mpr h2)) hSx⟩
theorem wt_invV {y' : MethodName} {cc' : ByteArray} {nL' fr' mc ms idx : Nat} {ret' : Option FieldType} {b : Nat} {As rest st0 : List Value} {C : String} (n : Nat) (hc : wt_Cx l G X y cc nL fr) (hM : wt_Ct l G y' cc' nL' ret' fr' mc ms (.ref b :: As) Z Post) (d : decode cc pc = .ok (.invokevirtual idx, 3))
    (hst : st0 = As.reverse ++ .ref b :: rest) (hb : ∀ (s : State) (H : Heap), wt_Sx G s s.heap → Z H → ∃ cell : Cell, H[b]? = some cell ∧ cell.vm.isStatics = false ∧ s.vm.findClass C = some cell.cls)
    (q1 : Cond.methodLink y.cls idx y' ∈ lw_all) (q2 : Cond.instanceMethod y' ∈ lw_all) (q3 : Cond.selects C y' y' ∈ lw_all) (q4 : Cond.initialized C ∈ lw_all) (q5 : Cond.code y' cc' nL' ret' ∈ lw_all)
    (hd : y'.cls = C ∧ y'.cls ≠ "java/lang/invoke/MethodHandle" ∧ y'.cls ≠ "java/lang/invoke/VarHandle" ∧ (parseMethodDescriptor y'.desc).map (fun d => d.parameters.length) = some n) (hn : As.length = n) (hfr : fr' < fr) (hnl : nL' ≤ 45) (hw : (rest.map fun v => v.category).sum ≤ 8) (hL : L.length = nL) : wt_Run G X pc 3 L st0 rest Z Post mc ms := by
  obtain ⟨p, l', e, Rm, s, m, args, below, meth, c, Q⟩ := X
  obtain ⟨rfl, hx, hbb, hown, hts, hml, hlk, hnm, hf1, hf2, hn0, hSx⟩ := hc
  intro H locs cells slots ls hZ hS hcl hsl hl T hT XX
  have cw : CallW Rm s args y.cls C idx y' cc' nL' ret' (ws_ y' cc' nL' ret') (wt_rm fr' mc ms) mc ms n := cwV n hts (lw_V q1 q2 q3 q4 q5) rfl rfl rfl hd ⟨by show fr' + 1 ≤ _; omega, by show 8 + (nL' + 11) + 64 * fr' ≤ _; omega⟩
  have hr := va_runV (e := e) (below := below) (meth := meth) (g := F0 m pc ls st0) (H := H) (locs := locs) (cells := cells) (slots := slots) (rest := rest) ⟨hx, hbb, hml, hown, hts⟩ hM cw ⟨wt_blind, hb s H hSx hZ, fun U hU hW => ⟨rfl, by rw [hU]; exact hZ, wt_Sx_at hn0 hSx hS hU hW⟩⟩ rfl hn (hl.1.trans hL) hst (lv_room hw) d ⟨hcl, hsl⟩
  obtain ⟨v, st₀, t, T', L', h0, X', hL', e1, e2, ⟨v', hv', hp, hz, hk⟩, st⟩ := hr T hT XX
  cases hv'
  rw [h0] at hz hk
  rw [← e1] at hp hz hk
  exact ⟨v, T', L', X', wt_S_back hn0 hS hz hk hL', hp, st⟩
theorem wt_invS {y' : MethodName} {cc' : ByteArray} {nL' fr' mc ms idx : Nat} {ret' : Option FieldType} {As rest st0 : List Value} (n : Nat) (hc : wt_Cx l G X y cc nL fr) (hM : wt_Ct l G y' cc' nL' ret' fr' mc ms As Z Post) (d : decode cc pc = .ok (.invokestatic idx, 3))
    (hst : st0 = As.reverse ++ rest)
    (q1 : Cond.methodLink y.cls idx y' ∈ lw_all) (q2 : Cond.static y' ∈ lw_all) (q3 : Cond.initialized y'.cls ∈ lw_all) (q4 : Cond.code y' cc' nL' ret' ∈ lw_all)
    (hd : y'.cls ≠ "java/lang/invoke/MethodHandle" ∧ y'.cls ≠ "java/lang/invoke/VarHandle" ∧ (parseMethodDescriptor y'.desc).map (fun d => d.parameters.length) = some n) (hn : As.length = n) (hfr : fr' < fr) (hnl : nL' ≤ 45) (hw : (rest.map fun v => v.category).sum ≤ 8) (hL : L.length = nL) : wt_Run G X pc 3 L st0 rest Z Post mc ms := by
  obtain ⟨p, l', e, Rm, s, m, args, below, meth, c, Q⟩ := X
  obtain ⟨rfl, hx, hbb, hown, hts, hml, hlk, hnm, hf1, hf2, hn0, hSx⟩ := hc
  intro H locs cells slots ls hZ hS hcl hsl hl T hT XX
  have cw := va_cwS (R := Rm) (own := y.cls) (index := idx) (y := y') (bytes := cc') (maxL := nL') (ret := ret') (rm := wt_rm fr' mc ms) (mc := mc) (ms := ms) n hts (lw_S q1 q2 q3 q4) rfl rfl rfl hd ⟨by show fr' + 1 ≤ _; omega, by show 8 + (nL' + 11) + 64 * fr' ≤ _; omega⟩
  have hr := va_runS (e := e) (below := below) (meth := meth) (g := F0 m pc ls st0) (H := H) (locs := locs) (cells := cells) (slots := slots) (rest := rest) ⟨hx, hbb, hml, hown, hts⟩ hM cw ⟨wt_blind, fun U hU hW => ⟨rfl, by rw [hU]; exact hZ, wt_Sx_at hn0 hSx hS hU hW⟩⟩ rfl hn (hl.1.trans hL) hst (lv_room hw) d ⟨hcl, hsl⟩
  obtain ⟨v, st₀, t, T', L', h0, X', hL', e1, e2, ⟨v', hv', hp, hz, hk⟩, st⟩ := hr T hT XX
  cases hv'
  rw [h0] at hz hk
  rw [← e1] at hp hz hk
  exact ⟨v, T', L', X', wt_S_back hn0 hS hz hk hL', hp, st⟩
theorem wt_invI {y' : MethodName} {cc' : ByteArray} {nL' fr' mc ms idx : Nat} {b : Nat} {As rest st0 : List Value} (n : Nat) (hc : wt_Cx l G X y cc nL fr) (hM : wt_Ct l G y' cc' nL' none fr' mc ms (.ref b :: As) Z Post) (d : decode cc pc = .ok (.invokespecial idx, 3))
    (hst : st0 = As.reverse ++ .ref b :: rest)
    (q1 : Cond.methodLink y.cls idx y' ∈ lw_all) (q2 : Cond.instanceMethod y' ∈ lw_all) (q3 : Cond.initialized y'.cls ∈ lw_all) (q4 : Cond.code y' cc' nL' none ∈ lw_all) (hy1 : y'.name = "<init>")
    (hd : y'.cls ≠ "java/lang/invoke/MethodHandle" ∧ y'.cls ≠ "java/lang/invoke/VarHandle" ∧ (parseMethodDescriptor y'.desc).map (fun d => d.parameters.length) = some n) (hn : As.length = n) (hfr : fr' < fr) (hnl : nL' ≤ 45) (hw : (rest.map fun v => v.category).sum ≤ 8) (hL : L.length = nL) : wt_Run G X pc 3 L st0 rest Z Post mc ms := by
  obtain ⟨p, l', e, Rm, s, m, args, below, meth, c, Q⟩ := X
  obtain ⟨rfl, hx, hbb, hown, hts, hml, hlk, hnm, hf1, hf2, hn0, hSx⟩ := hc
  intro H locs cells slots ls hZ hS hcl hsl hl T hT XX
  have cw := cwI (R := Rm) (own := y.cls) (index := idx) (y := y') (bytes := cc') (maxL := nL') (rm := wt_rm fr' mc ms) (mc := mc) (ms := ms) n hts (lw_meth q4) rfl rfl rfl (hts _ q3) (hts _ q1) (hts _ q2) hy1 hd ⟨by show fr' + 1 ≤ _; omega, by show 8 + (nL' + 11) + 64 * fr' ≤ _; omega⟩
  have hr := va_runI (e := e) (below := below) (meth := meth) (g := F0 m pc ls st0) (H := H) (locs := locs) (cells := cells) (slots := slots) (rest := rest) ⟨hx, hbb, hml, hown, hts⟩ hM cw ⟨wt_blind, fun U hU hW => ⟨rfl, by rw [hU]; exact hZ, wt_Sx_at hn0 hSx hS hU hW⟩⟩ rfl hn (hl.1.trans hL) hst (lv_room hw) d ⟨hcl, hsl⟩
  obtain ⟨v, st₀, t, T', L', h0, X', hL', e1, e2, ⟨v', hv', hp, hz, hk⟩, st⟩ := hr T hT XX
  cases hv'
  rw [h0] at hz hk
  rw [← e1] at hp hz hk
  exact ⟨v, T', L', X', wt_S_back hn0 hS hz hk hL', hp, st⟩
end WTC
