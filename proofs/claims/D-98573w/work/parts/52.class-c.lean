/-! CLASS ENGINE: calls: through objects, of nest mates, through interfaces, of super methods, inherited -/
set_option maxRecDepth 100000
theorem lw_SU {own : String} {idx : Nat} {y : MethodName} {b : ByteArray} {L : Nat} {r : Option FieldType} (h1 : Cond.methodLink own idx y ∈ lw_all) (h2 : Cond.sameMethod y.cls y.cls y.name y.desc ∈ lw_all) (h3 : Cond.superclass own y.cls ∈ lw_all) (h4 : Cond.instanceMethod y ∈ lw_all) (h5 : Cond.initialized y.cls ∈ lw_all) (h6 : Cond.code y b L r ∈ lw_all) : GoodIn lw_all (va_wsSU own idx y (ws_ y b L r)) := by
  refine lw_app ?_ (lw_meth h6)
  intro w hw
  simp only [List.mem_cons, List.not_mem_nil, or_false] at hw
  rcases hw with e | e | e | e | e
  · rw [e]; exact h1
  · rw [e]; exact h2
  · rw [e]; exact h3
  · rw [e]; exact h4
  · rw [e]; exact h5
theorem lw_F {own : String} {idx : Nat} {C : String} {x y : MethodName} {b : ByteArray} {L : Nat} {r : Option FieldType} (h1 : Cond.methodLink own idx x ∈ lw_all) (h2 : Cond.selects C x y ∈ lw_all) (h3 : Cond.instanceMethod y ∈ lw_all) (h4 : Cond.initialized y.cls ∈ lw_all) (h5 : Cond.code y b L r ∈ lw_all) : GoodIn lw_all (va_wsF own idx C x y (ws_ y b L r)) := by
  refine lw_app ?_ (lw_meth h5)
  intro w hw
  simp only [List.mem_cons, List.not_mem_nil, or_false] at hw
  rcases hw with e | e | e | e
  · rw [e]; exact h1
  · rw [e]; exact h2
  · rw [e]; exact h3
  · rw [e]; exact h4
section CC
variable {l : Launch} {G : wt_G} {X : wt_X} {y : MethodName} {cc : ByteArray} {nL fr pc : Nat} {L : List (Option Value)} {Z : Heap → Prop} {Post : Option Value → Heap → Prop} {B : cB}
/-- the receiver is an object of the class of place ci -/
theorem cz_recv {ci N b : Nat} {C : String} {T : u_T} (hP : cP ci C T N) (hK : B.1 b = some (.inl ci)) (s : State) (H : Heap) (hSx : wt_Sx G s s.heap) (hZ : cz G B H) : ∃ cell : Cell, H[b]? = some cell ∧ cell.vm.isStatics = false ∧ s.vm.findClass C = some cell.cls := by
  obtain ⟨r, hr, cell, h1, h2, h3, -⟩ := hZ _ _ hK
  have er : r = (C, T, N) := Option.some.inj (hr.symm.trans hP.1)
  subst er
  exact ⟨cell, h1, by rw [h3]; rfl, by rw [h2]; exact (hSx.1.1 ci _ hP.1).2.1⟩
theorem wt_invVN {y' : MethodName} {cc' : ByteArray} {nL' fr' mc ms idx : Nat} {ret' : Option FieldType} {b : Nat} {As rest st0 : List Value} {C host : String} (n : Nat) (hc : wt_Cx l G X y cc nL fr) (hM : wt_Ct l G y' cc' nL' ret' fr' mc ms (.ref b :: As) Z Post) (d : decode cc pc = .ok (.invokevirtual idx, 3))
    (hst : st0 = As.reverse ++ .ref b :: rest) (hb : ∀ (s : State) (H : Heap), wt_Sx G s s.heap → Z H → ∃ cell : Cell, H[b]? = some cell ∧ cell.vm.isStatics = false ∧ s.vm.findClass C = some cell.cls)
    (q1 : Cond.methodLinkNest y.cls idx y' host ∈ lw_tbl) (q2 : Cond.instanceMethod y' ∈ lw_all) (q3 : Cond.selects C y' y' ∈ lw_all) (q4 : Cond.initialized y'.cls ∈ lw_all) (q5 : Cond.code y' cc' nL' ret' ∈ lw_all)
    (hd : y'.cls ≠ "java/lang/invoke/MethodHandle" ∧ y'.cls ≠ "java/lang/invoke/VarHandle" ∧ (parseMethodDescriptor y'.desc).map (fun d => d.parameters.length) = some n) (hn : As.length = n) (hfr : fr' < fr) (hnl : nL' ≤ 45) (hw : (rest.map fun v => v.category).sum ≤ 8) (hL : L.length = nL) : wt_Run G X pc 3 L st0 rest Z Post mc ms := by
  obtain ⟨p, l', e, Rm, s, m, args, below, meth, c, Q⟩ := X
  obtain ⟨rfl, hx, hbb, hown, hts, hml, hlk, hnm, hf1, hf2, hn0, hSx⟩ := hc
  intro H locs cells slots ls hZ hS hcl hsl hl T hT XX
  have cw := va_cnB (R := Rm) (own := y.cls) (index := idx) (y := y') (bytes := cc') (maxL := nL') (ret := ret') (rm := wt_rm fr' mc ms) (mc := mc) (ms := ms) n hts (lw_meth q5) rfl rfl rfl (hSx.2.1 _ q1 rfl) (hts _ q4) hd ⟨by show fr' + 1 ≤ _; omega, by show 8 + (nL' + 11) + 64 * fr' ≤ _; omega⟩
  have hr := va_runVN (e := e) (below := below) (meth := meth) (g := F0 m pc ls st0) (H := H) (locs := locs) (cells := cells) (slots := slots) (rest := rest) ⟨hx, hbb, hml, hown, hts⟩ hM ⟨cw, hts _ q2, hts _ q3⟩ ⟨wt_blind, hb s H hSx hZ, fun U hU hW => ⟨rfl, by rw [hU]; exact hZ, wt_Sx_at hn0 hSx hS hU hW⟩⟩ rfl hn (hl.1.trans hL) hst (lv_room hw) d ⟨hcl, hsl⟩
  obtain ⟨v, st₀, t, T', L', h0, X', hL', e1, e2, ⟨v', hv', hp, hz, hk⟩, st⟩ := hr T hT XX
  cases hv'
  rw [h0] at hz hk
  rw [← e1] at hp hz hk
  exact ⟨v, T', L', X', wt_S_back hn0 hS hz hk hL', hp, st⟩
theorem wt_invSN {y' : MethodName} {cc' : ByteArray} {nL' fr' mc ms idx : Nat} {ret' : Option FieldType} {As rest st0 : List Value} {host : String} (n : Nat) (hc : wt_Cx l G X y cc nL fr) (hM : wt_Ct l G y' cc' nL' ret' fr' mc ms As Z Post) (d : decode cc pc = .ok (.invokestatic idx, 3))
    (hst : st0 = As.reverse ++ rest)
    (q1 : Cond.methodLinkNest y.cls idx y' host ∈ lw_tbl) (q2 : Cond.static y' ∈ lw_all) (q3 : Cond.initialized y'.cls ∈ lw_all) (q4 : Cond.code y' cc' nL' ret' ∈ lw_all)
    (hd : y'.cls ≠ "java/lang/invoke/MethodHandle" ∧ y'.cls ≠ "java/lang/invoke/VarHandle" ∧ (parseMethodDescriptor y'.desc).map (fun d => d.parameters.length) = some n) (hn : As.length = n) (hfr : fr' < fr) (hnl : nL' ≤ 45) (hw : (rest.map fun v => v.category).sum ≤ 8) (hL : L.length = nL) : wt_Run G X pc 3 L st0 rest Z Post mc ms := by
  obtain ⟨p, l', e, Rm, s, m, args, below, meth, c, Q⟩ := X
  obtain ⟨rfl, hx, hbb, hown, hts, hml, hlk, hnm, hf1, hf2, hn0, hSx⟩ := hc
  intro H locs cells slots ls hZ hS hcl hsl hl T hT XX
  have cw := va_cnB (R := Rm) (own := y.cls) (index := idx) (y := y') (bytes := cc') (maxL := nL') (ret := ret') (rm := wt_rm fr' mc ms) (mc := mc) (ms := ms) n hts (lw_meth q4) rfl rfl rfl (hSx.2.1 _ q1 rfl) (hts _ q3) hd ⟨by show fr' + 1 ≤ _; omega, by show 8 + (nL' + 11) + 64 * fr' ≤ _; omega⟩
  have hr := va_runSN (e := e) (below := below) (meth := meth) (g := F0 m pc ls st0) (H := H) (locs := locs) (cells := cells) (slots := slots) (rest := rest) ⟨hx, hbb, hml, hown, hts⟩ hM ⟨cw, hts _ q2, trivial⟩ ⟨wt_blind, fun U hU hW => ⟨rfl, by rw [hU]; exact hZ, wt_Sx_at hn0 hSx hS hU hW⟩⟩ rfl hn (hl.1.trans hL) hst (lv_room hw) d ⟨hcl, hsl⟩
  obtain ⟨v, st₀, t, T', L', h0, X', hL', e1, e2, ⟨v', hv', hp, hz, hk⟩, st⟩ := hr T hT XX
  cases hv'
  rw [h0] at hz hk
  rw [← e1] at hp hz hk
  exact ⟨v, T', L', X', wt_S_back hn0 hS hz hk hL', hp, st⟩
theorem wt_invIN {y' : MethodName} {cc' : ByteArray} {nL' fr' mc ms idx : Nat} {b : Nat} {As rest st0 : List Value} {host : String} (n : Nat) (hc : wt_Cx l G X y cc nL fr) (hM : wt_Ct l G y' cc' nL' none fr' mc ms (.ref b :: As) Z Post) (d : decode cc pc = .ok (.invokespecial idx, 3))
    (hst : st0 = As.reverse ++ .ref b :: rest)
    (q1 : Cond.methodLinkNest y.cls idx y' host ∈ lw_tbl) (q2 : Cond.instanceMethod y' ∈ lw_all) (q3 : Cond.initialized y'.cls ∈ lw_all) (q4 : Cond.code y' cc' nL' none ∈ lw_all) (hy1 : y'.name = "<init>")
    (hd : y'.cls ≠ "java/lang/invoke/MethodHandle" ∧ y'.cls ≠ "java/lang/invoke/VarHandle" ∧ (parseMethodDescriptor y'.desc).map (fun d => d.parameters.length) = some n) (hn : As.length = n) (hfr : fr' < fr) (hnl : nL' ≤ 45) (hw : (rest.map fun v => v.category).sum ≤ 8) (hL : L.length = nL) : wt_Run G X pc 3 L st0 rest Z Post mc ms := by
  obtain ⟨p, l', e, Rm, s, m, args, below, meth, c, Q⟩ := X
  obtain ⟨rfl, hx, hbb, hown, hts, hml, hlk, hnm, hf1, hf2, hn0, hSx⟩ := hc
  intro H locs cells slots ls hZ hS hcl hsl hl T hT XX
  have cw := va_cnB (R := Rm) (own := y.cls) (index := idx) (y := y') (bytes := cc') (maxL := nL') (ret := none) (rm := wt_rm fr' mc ms) (mc := mc) (ms := ms) n hts (lw_meth q4) rfl rfl rfl (hSx.2.1 _ q1 rfl) (hts _ q3) hd ⟨by show fr' + 1 ≤ _; omega, by show 8 + (nL' + 11) + 64 * fr' ≤ _; omega⟩
  have hr := va_runIN (e := e) (below := below) (meth := meth) (g := F0 m pc ls st0) (H := H) (locs := locs) (cells := cells) (slots := slots) (rest := rest) ⟨hx, hbb, hml, hown, hts⟩ hM ⟨cw, hy1, hts _ q2⟩ ⟨wt_blind, fun U hU hW => ⟨rfl, by rw [hU]; exact hZ, wt_Sx_at hn0 hSx hS hU hW⟩⟩ rfl hn (hl.1.trans hL) hst (lv_room hw) d ⟨hcl, hsl⟩
  obtain ⟨v, st₀, t, T', L', h0, X', hL', e1, e2, ⟨v', hv', hp, hz, hk⟩, st⟩ := hr T hT XX
  cases hv'
  rw [h0] at hz hk
  rw [← e1] at hp hz hk
  exact ⟨v, T', L', X', wt_S_back hn0 hS hz hk hL', hp, st⟩
/-- a call of a super class's method -/
theorem wt_invU {y' : MethodName} {cc' : ByteArray} {nL' fr' mc ms idx : Nat} {ret' : Option FieldType} {b ci N : Nat} {As rest st0 : List Value} {C : String} {T0 : u_T} (n : Nat) (hc : wt_Cx l G X y cc nL fr) (hP : cP ci C T0 N) (hK : B.1 b = some (.inl ci)) (hM : wt_Ct l G y' cc' nL' ret' fr' mc ms (.ref b :: As) (cz G B) Post) (d : decode cc pc = .ok (.invokespecial idx, 3))
    (hst : st0 = As.reverse ++ .ref b :: rest)
    (q1 : Cond.methodLink y.cls idx y' ∈ lw_all) (q2 : Cond.sameMethod y'.cls y'.cls y'.name y'.desc ∈ lw_all) (q3 : Cond.superclass y.cls y'.cls ∈ lw_all) (q4 : Cond.instanceMethod y' ∈ lw_all) (q5 : Cond.initialized y'.cls ∈ lw_all) (q6 : Cond.code y' cc' nL' ret' ∈ lw_all)
    (hd : y'.name ≠ "<init>" ∧ (parseMethodDescriptor y'.desc).map (fun d => d.parameters.length) = some n) (hn : As.length = n) (hfr : fr' < fr) (hnl : nL' ≤ 45) (hw : (rest.map fun v => v.category).sum ≤ 8) (hL : L.length = nL) : wt_Run G X pc 3 L st0 rest (cz G B) Post mc ms := by
  obtain ⟨p, l', e, Rm, s, m, args, below, meth, c, Q⟩ := X
  obtain ⟨rfl, hx, hbb, hown, hts, hml, hlk, hnm, hf1, hf2, hn0, hSx⟩ := hc
  intro H locs cells slots ls hZ hS hcl hsl hl T hT XX
  have cw := va_cwSU (R := Rm) (s := s) (args := args) (own := y.cls) (index := idx) (y := y') (bytes := cc') (maxL := nL') (ret := ret') (rm := wt_rm fr' mc ms) (mc := mc) (ms := ms) n hts (lw_SU q1 q2 q3 q4 q5 q6) rfl rfl rfl hd ⟨by show fr' + 1 ≤ _; omega, by show 8 + (nL' + 11) + 64 * fr' ≤ _; omega⟩
  have hr := va_runSU (e := e) (below := below) (meth := meth) (g := F0 m pc ls st0) (H := H) (locs := locs) (cells := cells) (slots := slots) (rest := rest) (hSx.1.1 ci _ hP.1).2 ⟨hx, hbb, hml, hown, hts⟩ hM cw ⟨wt_blind, cz_recv hP hK s H hSx hZ, fun U hU hW => ⟨rfl, by rw [hU]; exact hZ, wt_Sx_at hn0 hSx hS hU hW⟩⟩ rfl hn (hl.1.trans hL) hst (lv_room hw) d ⟨hcl, hsl⟩
  obtain ⟨v, st₀, t, T', L', h0, X', hL', e1, e2, ⟨v', hv', hp, hz, hk⟩, st⟩ := hr T hT XX
  cases hv'
  rw [h0] at hz hk
  rw [← e1] at hp hz hk
  exact ⟨v, T', L', X', wt_S_back hn0 hS hz hk hL', hp, st⟩
/-- a call through an interface -/
theorem wt_invF {x y' : MethodName} {cc' : ByteArray} {nL' fr' mc ms idx cnt : Nat} {ret' : Option FieldType} {b ci N : Nat} {As rest st0 : List Value} {C : String} {T0 : u_T} (n : Nat) (hc : wt_Cx l G X y cc nL fr) (hP : cP ci C T0 N) (hK : B.1 b = some (.inl ci)) (hM : wt_Ct l G y' cc' nL' ret' fr' mc ms (.ref b :: As) (cz G B) Post) (d : decode cc pc = .ok (.invokeinterface idx cnt, 5))
    (hst : st0 = As.reverse ++ .ref b :: rest)
    (q1 : Cond.methodLink y.cls idx x ∈ lw_all) (q2 : Cond.selects C x y' ∈ lw_all) (q3 : Cond.instanceMethod y' ∈ lw_all) (q4 : Cond.initialized y'.cls ∈ lw_all) (q5 : Cond.code y' cc' nL' ret' ∈ lw_all)
    (hF0 : ∀ s : State, wt_Sx G s s.heap → va_Fw C x y' s)
    (hd : x.cls ≠ "java/lang/invoke/MethodHandle" ∧ x.cls ≠ "java/lang/invoke/VarHandle" ∧ (parseMethodDescriptor x.desc).map (fun d => d.parameters.length) = some n) (hn : As.length = n) (hfr : fr' < fr) (hnl : nL' ≤ 45) (hw : (rest.map fun v => v.category).sum ≤ 8) (hL : L.length = nL) : wt_Run G X pc 5 L st0 rest (cz G B) Post mc ms := by
  obtain ⟨p, l', e, Rm, s, m, args, below, meth, c, Q⟩ := X
  obtain ⟨rfl, hx, hbb, hown, hts, hml, hlk, hnm, hf1, hf2, hn0, hSx⟩ := hc
  intro H locs cells slots ls hZ hS hcl hsl hl T hT XX
  have hF := hF0 s hSx
  have cw := va_cwF (R := Rm) (s := s) (args := args) (own := y.cls) (C := C) (index := idx) (x := x) (y := y') (bytes := cc') (maxL := nL') (ret := ret') (rm := wt_rm fr' mc ms) (mc := mc) (ms := ms) n hts (lw_F q1 q2 q3 q4 q5) rfl rfl rfl hF hd ⟨by show fr' + 1 ≤ _; omega, by show 8 + (nL' + 11) + 64 * fr' ≤ _; omega⟩
  have hr := va_runF (e := e) (below := below) (meth := meth) (g := F0 m pc ls st0) (H := H) (locs := locs) (cells := cells) (slots := slots) (rest := rest) (hSx.1.1 ci _ hP.1).2 ⟨hx, hbb, hml, hown, hts⟩ hM cw ⟨wt_blind, cz_recv hP hK s H hSx hZ, fun U hU hW => ⟨rfl, by rw [hU]; exact hZ, wt_Sx_at hn0 hSx hS hU hW⟩⟩ rfl hn (hl.1.trans hL) hst (lv_room hw) d ⟨hcl, hsl⟩
  obtain ⟨v, st₀, t, T', L', h0, X', hL', e1, e2, ⟨v', hv', hp, hz, hk⟩, st⟩ := hr T hT XX
  cases hv'
  rw [h0] at hz hk
  rw [← e1] at hp hz hk
  exact ⟨v, T', L', X', wt_S_back hn0 hS hz hk hL', hp, st⟩
end CC
