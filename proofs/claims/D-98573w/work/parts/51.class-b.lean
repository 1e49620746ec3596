/-! CLASS ENGINE: new objects, finals, references into arrays, casts -/
set_option maxRecDepth 100000
def wt_nm (x : wt_kd) : String := match x with
  | .inl ci => match wt_cl[ci]? with
    | some q => q.1
    | none => ""
  | .inr tn => "[" ++ (wt_aty tn.1).toString
def wt_okty (ty : FieldType) : Bool := match ty with
  | .float => false
  | .double => false
  | _ => true
theorem wt_def {ty : FieldType} (h : wt_okty ty = true) : defaultValue ty = wt_fv ty 0 none 0 := by
  cases ty <;> first | rfl | cases h
theorem wt_all {P : Nat → Bool} {n : Nat} (h : (List.range n).all P = true) : ∀ k, k < n → P k = true := fun k hk => List.all_eq_true.mp h k (List.mem_range.mpr hk)
section CBW
variable {p : Program} {l : Launch} {e : Env} {Rm : Room} {s : State} {m : MethodId} {args : Array Value} {below : List Frame} {meth : Method} {c : Code} {H : Heap} {locs : List Loc} {cells slots : Nat} {Q : State → Prop}
variable {cc : ByteArray} {pc : Nat} {ls : Array Slot} {rest : List Value} {G : wt_G}
/-- a cell's class by its kind -/
theorem wt_recv {a : Nat} {x : wt_kd} {I : Nat → Int32} {R : Nat → Option Nat} {J : Nat → Int64} (hK : va_K G.2.1 wt_cl (wt_tys G) s) (hh : wt_hold G x a I R J H) : ∃ cell : Cell, H[a]? = some cell ∧ cell.vm.isStatics = false ∧ cell.vm = .none ∧ s.vm.findClass (wt_nm x) = some cell.cls ∧ ∃ k, s.vm.classes[cell.cls]? = some k := by
  cases x with
  | inl ci =>
    obtain ⟨q, hq, cell, h1, h2, h3, -⟩ := hh
    have hcls := (hK.1 ci q hq).2
    refine ⟨cell, h1, by rw [h3]; rfl, h3, ?_, ?_⟩
    · show s.vm.findClass (match wt_cl[ci]? with | some q => q.1 | none => "") = _
      rw [hq, h2]
      exact hcls.1
    · obtain ⟨kC, hkC, -⟩ := hcls.2
      rw [h2]
      exact ⟨kC, hkC⟩
  | inr tn =>
    obtain ⟨t, n⟩ := tn
    have h7 := hh.1
    have key : ∀ ty : FieldType, wt_aty t = ty → (wt_tys G)[t]? = some (G.2.2.1 t, ty) → s.vm.findClass ("[" ++ ty.toString) = some (G.2.2.1 t) := by
      intro ty e hty
      have h2 := (hK.2 t _ hty).2
      cases ty with
      | object C => obtain ⟨kA, comp, -, -, -, h4⟩ := h2; exact h4
      | _ => exact h2
    have hk : ∀ ty : FieldType, (wt_tys G)[t]? = some (G.2.2.1 t, ty) → ∃ k, s.vm.classes[G.2.2.1 t]? = some k := by
      intro ty hty
      obtain ⟨-, kA, h2, -⟩ := (hK.2 t _ hty).1 n (fun k => wt_fv (wt_aty t) (I k) (R k) (J k))
      exact ⟨kA, h2⟩
    refine ⟨_, hh.2, rfl, rfl, ?_, ?_⟩
    · show s.vm.findClass ("[" ++ (wt_aty t).toString) = some (G.2.2.1 t)
      match t, h7, key with
      | 0, _, key => exact key _ rfl rfl
      | 1, _, key => exact key _ rfl rfl
      | 2, _, key => exact key _ rfl rfl
      | 3, _, key => exact key _ rfl rfl
      | 4, _, key => exact key _ rfl rfl
      | 5, _, key => exact key _ rfl rfl
      | 6, _, key => exact key _ rfl rfl
      | t + 7, h, _ => exact absurd h (by show ¬ (t + 7 < 7); omega)
    · show ∃ k, s.vm.classes[G.2.2.1 t]? = some k
      match t, h7, hk with
      | 0, _, key => exact key _ rfl
      | 1, _, key => exact key _ rfl
      | 2, _, key => exact key _ rfl
      | 3, _, key => exact key _ rfl
      | 4, _, key => exact key _ rfl
      | 5, _, key => exact key _ rfl
      | 6, _, key => exact key _ rfl
      | t + 7, h, _ => exact absurd h (by show ¬ (t + 7 < 7); omega)
/-- a final field is written by its own constructor -/
theorem wt_WputF (hexec : p.tables.exec = Jvm.exec) (hb : c.code = cc) {own ref C : String} {T : u_T} {N ci index a : Nat} (hts : ∀ w ∈ lw_all, w.before args s = true) (hin : ∀ w ∈ u_ws C T N, w ∈ lw_all) (ty0 : Nat → FieldType) (hty : ∀ k, k < N → parseFieldDescriptor (T k).2.2.1 = some (ty0 k)) (hnm : ∀ a, a < N → ∀ b, b < N → a ≠ b → (T a).2.1 ≠ (T b).2.1) (hown : s.vm.findClass own = some m.cls) (hK : va_K G.2.1 wt_cl (wt_tys G) s) (hcl : wt_cl[ci]? = some (C, T, N)) {I I' : Nat → Int32} {R R' : Nat → Option Nat} {J J' : Nat → Int64} (hh : wt_hold G (.inl ci) a I R J H) (hS0 : va_S (fun q => G.1 ≤ q) s.heap H locs) (ha : G.1 ≤ a) (k : Nat) (hk : k < N)
    (hlink : (Cond.fieldLink own index ref (T k).2.1 (T k).2.2.1).before args s = true) (hsame : ∀ x, s.fieldFound? (T k).1 (T k).2.1 (T k).2.2.1 = some x → s.fieldFound? ref (T k).2.1 (T k).2.2.1 = some x) (hfin : (T k).2.2.2 = true) (hin2 : meth.name = "<init>") (hdecl : (T k).1 = own) {v : Value} (hn : narrow (ty0 k) v = v) (hfit : fits (ty0 k) v = true)
    (hv : wt_fv (wt_ft ci k) (I' k) (R' k) (J' k) = v) (ho : ∀ j, j ≠ k → I' j = I j ∧ R' j = R j ∧ J' j = J j) (hdg : decode cc pc = .ok (.putfield index, 3))
    (kk : ∀ (H1 : Heap) (locs1 : List Loc), (∀ q : Nat, q ≠ a → H1[q]? = H[q]?) → wt_hold G (.inl ci) a I' R' J' H1 → va_S (fun q => G.1 ≤ q) s.heap H1 locs1 → W p l e Rm s m args below meth c H1 locs1 cells slots Q (F0 m (pc + 3) ls rest)) : W p l e Rm s m args below meth c H locs cells slots Q (F0 m pc ls (v :: .ref a :: rest)) := by
  have hap := va_apart (own := own) hts hin ty0 hty hnm hK hcl
  obtain ⟨r, h1, cell, q1, q2, q3, q4⟩ := hh
  have hr : r = (C, T, N) := Option.some.inj (h1.symm.trans hcl)
  subst hr
  obtain ⟨hS, hfc, kC, hkC, hkind⟩ := hK.1 ci _ hcl
  obtain ⟨cf, kf, fi, f, hi, hsl⟩ := hS k hk
  have hlay := hts _ (hin _ (u_in_lay hk))
  unfold u_lay at hlay
  rw [if_pos hfin] at hlay
  have hst := (u_facts hfc hkC (u_lays hts hin hk) hi).1
  have hcf : m.cls = cf := by
    obtain ⟨_, _, c', _, _, _, -, -, hf', -, -, -, hown2, -⟩ := Cond.laysFinal_spec hlay
    have e1 : c' = cf := by have := hi.symm.trans hf'; simp at this; exact this.1.symm
    rw [hdecl] at hown2
    rw [← e1]; exact Option.some.inj (hown.symm.trans hown2)
  have h6 := u_fits hfc hkC hkind (Or.inr hlay) hi (hty k hk) hn hfit
  refine W.putFinK hexec hb hown hlink (hsame _ hi) hst hcf hin2 (by rw [q2]; exact h6) q1 q3 (by rw [hsl]; exact k2_hasslot (q4 k hk)) rfl rfl hdg fun H' e1 e2 e3 => ?_
  rw [hsl] at e1 ⊢
  refine kk H' _ e3 ⟨_, hcl, t_OB.to (V := updV (fun k => wt_fv (wt_ft ci k) (I k) (R k) (J k)) k v) ⟨_, e1, q2, q3, t_set q4 hap hk v⟩ (fun j _ => ?_)⟩ (hS0.put e2 e3 ha)
  by_cases hj : j = k
  · subst hj
    simp only [updV, if_true]
    exact hv.symm
  · obtain ⟨o1, o2, o3⟩ := ho j hj
    simp only [updV, hj, if_false]
    rw [o1, o2, o3]
/-- a nest mate's field is written -/
theorem wt_WputN (hexec : p.tables.exec = Jvm.exec) (hb : c.code = cc) {own ref C host : String} {T : u_T} {N ci index a : Nat} (hts : ∀ w ∈ lw_all, w.before args s = true) (hin : ∀ w ∈ u_ws C T N, w ∈ lw_all) (ty0 : Nat → FieldType) (hty : ∀ k, k < N → parseFieldDescriptor (T k).2.2.1 = some (ty0 k)) (hnm : ∀ a, a < N → ∀ b, b < N → a ≠ b → (T a).2.1 ≠ (T b).2.1) (hown : s.vm.findClass own = some m.cls) (hK : va_K G.2.1 wt_cl (wt_tys G) s) (hcl : wt_cl[ci]? = some (C, T, N)) {I I' : Nat → Int32} {R R' : Nat → Option Nat} {J J' : Nat → Int64} (hh : wt_hold G (.inl ci) a I R J H) (hS0 : va_S (fun q => G.1 ≤ q) s.heap H locs) (ha : G.1 ≤ a) (k : Nat) (hk : k < N)
    (hlink : (Cond.fieldLinkNest own index ref (T k).2.1 (T k).2.2.1 host).before args s = true) (hsame : ∀ x, s.fieldFound? (T k).1 (T k).2.1 (T k).2.2.1 = some x → s.fieldFound? ref (T k).2.1 (T k).2.2.1 = some x) (hfin : (T k).2.2.2 = false) {v : Value} (hn : narrow (ty0 k) v = v) (hfit : fits (ty0 k) v = true)
    (hv : wt_fv (wt_ft ci k) (I' k) (R' k) (J' k) = v) (ho : ∀ j, j ≠ k → I' j = I j ∧ R' j = R j ∧ J' j = J j) (hdg : decode cc pc = .ok (.putfield index, 3))
    (kk : ∀ (H1 : Heap) (locs1 : List Loc), (∀ q : Nat, q ≠ a → H1[q]? = H[q]?) → wt_hold G (.inl ci) a I' R' J' H1 → va_S (fun q => G.1 ≤ q) s.heap H1 locs1 → W p l e Rm s m args below meth c H1 locs1 cells slots Q (F0 m (pc + 3) ls rest)) : W p l e Rm s m args below meth c H locs cells slots Q (F0 m pc ls (v :: .ref a :: rest)) := by
  have hap := va_apart (own := own) hts hin ty0 hty hnm hK hcl
  obtain ⟨r, h1, cell, q1, q2, q3, q4⟩ := hh
  have hr : r = (C, T, N) := Option.some.inj (h1.symm.trans hcl)
  subst hr
  obtain ⟨hS, hfc, kC, hkC, hkind⟩ := hK.1 ci _ hcl
  obtain ⟨cf, kf, fi, f, hi, hsl⟩ := hS k hk
  have hlay := hts _ (hin _ (u_in_lay hk))
  unfold u_lay at hlay
  rw [if_neg (by rw [hfin]; decide)] at hlay
  have hst := (u_facts hfc hkC (u_lays hts hin hk) hi).1
  have h6 := u_store hfc hkC hkind hlay hi (hty k hk) hn hfit
  refine va_WputK hexec hb (f := f) hown hlink (hsame _ hi) hst (by rw [q2]; exact h6) q1 q3 (by rw [hsl]; exact k2_hasslot (q4 k hk)) rfl rfl hdg fun H' e1 e2 e3 => ?_
  rw [hsl] at e1 ⊢
  refine kk H' _ e3 ⟨_, hcl, t_OB.to (V := updV (fun k => wt_fv (wt_ft ci k) (I k) (R k) (J k)) k v) ⟨_, e1, q2, q3, t_set q4 hap hk v⟩ (fun j _ => ?_)⟩ (hS0.put e2 e3 ha)
  by_cases hj : j = k
  · subst hj
    simp only [updV, if_true]
    exact hv.symm
  · obtain ⟨o1, o2, o3⟩ := ho j hj
    simp only [updV, hj, if_false]
    rw [o1, o2, o3]
end CBW
section CB
variable {l : Launch} {G : wt_G} {X : wt_X} {y : MethodName} {cc : ByteArray} {nL fr pc : Nat} {L : List (Option Value)} {st : List Value} {B : cB} {kc ks : Nat}
/-- new -/
theorem cv_new {idx ci N : Nat} {C : String} {T : u_T} (hc : wt_Cx l G X y cc nL fr) (hP : cP ci C T N) (d : decode cc pc = .ok (.new idx, 3)) (q1 : Cond.classLink y.cls idx C ∈ lw_all) (q2 : Cond.instantiable C N ∈ lw_all) (q3 : Cond.initialized C ∈ lw_all) (h1 : 1 ≤ kc) (h2 : N ≤ ks) (hdef : (List.range N).all (fun k => wt_okty (wt_ft ci k)) = true)
    (kk : ∀ a, G.1 ≤ a → (∀ b, a ≤ b → B.1 b = none) → wt_V G X (pc + 3) L (.ref a :: st) (cz G (cN B a (.inl ci))) (kc - 1) (ks - N)) : wt_V G X pc L st (cz G B) kc ks := by
  obtain ⟨p, l', e, Rm, s, m, args, below, meth, c, Q⟩ := X
  obtain ⟨rfl, hx, hbb, hown, hts, hml, hlk, hnm, hf1, hf2, hn0, hSx⟩ := hc
  intro H locs cells slots ls hZ hS hcl hsl hl
  have hKn := hSx.1.1 ci _ hP.1
  refine W.newcK hx hbb hown (hts _ q1) (hts _ q2) (hts _ q3) rfl d (by omega) (by omega) hKn.2.1 rfl fun H1 kC hkC e1 z1 o1 => ?_
  have hS1 : va_S (fun q => G.1 ≤ q) s.heap H1 locs := ⟨Nat.le_trans hS.1 (by omega), fun x h1 h2 => (o1 x (Nat.lt_of_lt_of_le h1 hS.1)).trans (hS.2.1 x h1 h2), hS.2.2⟩
  have hb := u_born (wt_ft ci) hts hP.2.1 hKn hkC e1 hP.2.2.1
  exact kk H.size (Nat.le_trans hn0 hS.1) (cz_fresh hZ) H1 locs (cells + 1) (slots + N) ls (cN_hold hZ o1 ⟨_, hP.1, t_OB.to hb (fun k hk => wt_def (wt_all hdef k hk))⟩) hS1 (by omega) (by omega) hl
theorem cv_putFi {idx a ci N : Nat} {ref C : String} {T : u_T} {x : Int32} (k : Nat) (hc : wt_Cx l G X y cc nL fr) (hin : y.name = "<init>") (hw : cOld (.inl ci) = false) (hG : cOK G B) (hP : cP ci C T N) (hK : B.1 a = some (.inl ci)) (d : decode cc pc = .ok (.putfield idx, 3)) (q : Cond.fieldLink y.cls idx ref (T k).2.1 (T k).2.2.1 ∈ lw_all) (hk : k < N) (ht : ∀ i r j, wt_fv (wt_ft ci k) i r j = .int i) (hd : wt_sf ref (T k)) (hd2 : (T k).1 = y.cls) (hfin : (T k).2.2.2 = true) (hn : narrow (wt_ft ci k) (.int x) = .int x) (hfit : fits (wt_ft ci k) (.int x) = true)
    (kk : wt_V G X (pc + 3) L st (cz G (cI B a k x)) kc ks) : wt_V G X pc L (.int x :: .ref a :: st) (cz G B) kc ks := by
  obtain ⟨p, l', e, Rm, s, m, args, below, meth, c, Q⟩ := X
  obtain ⟨rfl, hx, hbb, hown, hts, hml, hlk, hnm, hf1, hf2, hn0, hSx⟩ := hc
  intro H locs cells slots ls hZ hS hcl hsl hl
  refine wt_WputF (I' := wt_up2 B.2.1 a k x a) (R' := B.2.2.1 a) (J' := B.2.2.2 a) hx hbb hts hP.2.1 (wt_ft ci) hP.2.2.1 hP.2.2.2 hown hSx.1 hP.1 (hZ a _ hK) hS (hG a _ hK hw) k hk (hts _ q) (wt_sf.use hts hd) hfin (hnm.trans hin) hd2 hn hfit ((ht _ _ _).trans (congrArg Value.int (wt_up2_self _ _ _ _))) (fun j hj => ⟨wt_up2_ne (fun z => hj z.2), rfl, rfl⟩) d (fun H1 locs1 oq hh hS1 => ?_)
  exact kk H1 locs1 cells slots ls (cz_put hZ oq rfl hK (fun b hb => ⟨wt_up2_row hb, rfl, rfl⟩) hh) hS1 hcl hsl hl
theorem cv_putFr {idx a ci N : Nat} {ref C : String} {T : u_T} {x : Option Nat} (k : Nat) (hc : wt_Cx l G X y cc nL fr) (hin : y.name = "<init>") (hw : cOld (.inl ci) = false) (hG : cOK G B) (hP : cP ci C T N) (hK : B.1 a = some (.inl ci)) (d : decode cc pc = .ok (.putfield idx, 3)) (q : Cond.fieldLink y.cls idx ref (T k).2.1 (T k).2.2.1 ∈ lw_all) (hk : k < N) (ht : ∀ i r j, wt_fv (wt_ft ci k) i r j = va_rf r) (hd : wt_sf ref (T k)) (hd2 : (T k).1 = y.cls) (hfin : (T k).2.2.2 = true) (hn : narrow (wt_ft ci k) (va_rf x) = va_rf x) (hfit : fits (wt_ft ci k) (va_rf x) = true)
    (kk : wt_V G X (pc + 3) L st (cz G (cR B a k x)) kc ks) : wt_V G X pc L (va_rf x :: .ref a :: st) (cz G B) kc ks := by
  obtain ⟨p, l', e, Rm, s, m, args, below, meth, c, Q⟩ := X
  obtain ⟨rfl, hx, hbb, hown, hts, hml, hlk, hnm, hf1, hf2, hn0, hSx⟩ := hc
  intro H locs cells slots ls hZ hS hcl hsl hl
  refine wt_WputF (I' := B.2.1 a) (R' := wt_up2 B.2.2.1 a k x a) (J' := B.2.2.2 a) hx hbb hts hP.2.1 (wt_ft ci) hP.2.2.1 hP.2.2.2 hown hSx.1 hP.1 (hZ a _ hK) hS (hG a _ hK hw) k hk (hts _ q) (wt_sf.use hts hd) hfin (hnm.trans hin) hd2 hn hfit ((ht _ _ _).trans (congrArg va_rf (wt_up2_self _ _ _ _))) (fun j hj => ⟨rfl, wt_up2_ne (fun z => hj z.2), rfl⟩) d (fun H1 locs1 oq hh hS1 => ?_)
  exact kk H1 locs1 cells slots ls (cz_put hZ oq rfl hK (fun b hb => ⟨rfl, wt_up2_row hb, rfl⟩) hh) hS1 hcl hsl hl
theorem cv_putNi {idx a ci N : Nat} {ref C host : String} {T : u_T} {x : Int32} (k : Nat) (hc : wt_Cx l G X y cc nL fr) (hG : cOK G B) (hP : cP ci C T N) (hK : B.1 a = some (.inl ci)) (d : decode cc pc = .ok (.putfield idx, 3)) (q : Cond.fieldLinkNest y.cls idx ref (T k).2.1 (T k).2.2.1 host ∈ lw_tbl) (hk : k < N) (ht : ∀ i r j, wt_fv (wt_ft ci k) i r j = .int i) (hd : wt_sf ref (T k)) (hfin : (T k).2.2.2 = false) (hn : narrow (wt_ft ci k) (.int x) = .int x) (hfit : fits (wt_ft ci k) (.int x) = true)
    (kk : wt_V G X (pc + 3) L st (cz G (cI B a k x)) kc ks) : wt_V G X pc L (.int x :: .ref a :: st) (cz G B) kc ks := by
  obtain ⟨p, l', e, Rm, s, m, args, below, meth, c, Q⟩ := X
  obtain ⟨rfl, hx, hbb, hown, hts, hml, hlk, hnm, hf1, hf2, hn0, hSx⟩ := hc
  intro H locs cells slots ls hZ hS hcl hsl hl
  refine wt_WputN (I' := wt_up2 B.2.1 a k x a) (R' := B.2.2.1 a) (J' := B.2.2.2 a) hx hbb hts hP.2.1 (wt_ft ci) hP.2.2.1 hP.2.2.2 hown hSx.1 hP.1 (hZ a _ hK) hS (hG a _ hK (cOld_fin hP.1 hk hfin)) k hk (va_Nw.use (A := args) rfl (hSx.2.1 _ q rfl)) (wt_sf.use hts hd) hfin hn hfit ((ht _ _ _).trans (congrArg Value.int (wt_up2_self _ _ _ _))) (fun j hj => ⟨wt_up2_ne (fun z => hj z.2), rfl, rfl⟩) d (fun H1 locs1 oq hh hS1 => ?_)
  exact kk H1 locs1 cells slots ls (cz_put hZ oq rfl hK (fun b hb => ⟨wt_up2_row hb, rfl, rfl⟩) hh) hS1 hcl hsl hl
/-- a reference goes into an array -/
theorem cv_aast {a v t n : Nat} {x : wt_kd} {i : Int32} {E : String} (j : Nat) (hc : wt_Cx l G X y cc nL fr) (hG : cOK G B) (hK : B.1 a = some (.inr (t, n))) (ht : wt_aty t = .object E) (hty : (wt_tys G)[t]? = some (G.2.2.1 t, .object E)) (ht6 : t ≠ 6) (hv : B.1 v = some x) (hca : Cond.castable (wt_nm x) E ∈ lw_tbl) (d : decode cc pc = .ok (.aastore, 1)) (hi : i = nI j) (hj : j < n) (hs : n < 2 ^ 31)
    (kk : wt_V G X (pc + 1) L st (cz G (cR B a j (some v))) kc ks) : wt_V G X pc L (.ref v :: .int i :: .ref a :: st) (cz G B) kc ks := by
  obtain ⟨p, l', e, Rm, s, m, args, below, meth, c, Q⟩ := X
  obtain ⟨rfl, hx, hbb, hown, hts, hml, hlk, hnm, hf1, hf2, hn0, hSx⟩ := hc
  intro H locs cells slots ls hZ hS hcl hsl hl
  subst hi
  have hnw : cOld (.inr (t, n)) = false := by
    show ((t == 5 && n == 0) || t == 6) = false
    simp only [Bool.or_eq_false_iff, Bool.and_eq_false_iff, beq_eq_false_iff_ne, ne_eq]
    exact ⟨Or.inr (by omega), ht6⟩
  have hh := hZ _ _ hK
  obtain ⟨cellV, g1, g2, g3, g4, kV, hkV⟩ := wt_recv hSx.1 (hZ _ _ hv)
  obtain ⟨kA, comp, k1, k2, k3, -⟩ := (hSx.1.2 t _ hty).2
  obtain ⟨kE, hkE, -⟩ := Vm.findClass_spec k3
  obtain ⟨c0, t1, f1, f2, f3⟩ := Cond.castable_spec (va_Nw.use (A := args) rfl (hSx.2.1 _ hca rfl))
  cases g4.symm.trans f1
  cases k3.symm.trans f2
  refine W.aast hx hbb hh.2 (fun q h => by cases h) (fun h => by cases h) k1 k2 rfl hkE ⟨nI_pos (by omega), by show _ < (arrV _ _ _).slots.size; rw [arrV_size, nI_clamp (by omega)]; exact hj⟩ g1 (fun q h => by rw [g3] at h; cases h) hkV f3 rfl rfl d fun H1 e1 z oq => ?_
  rw [nI_clamp (show j < 2 ^ 31 by omega)] at e1
  have hf : ∀ i r j, wt_fv (wt_aty t) i r j = va_rf r := fun i r j => by rw [ht]; rfl
  refine kk H1 _ cells slots ls (cz_put hZ oq rfl hK (fun b hb => ⟨rfl, wt_up2_row hb, rfl⟩) (wt_arr_put (R' := wt_up2 B.2.2.1 a j (some v) a) hh e1 (by rw [hf, wt_up2_self]; rfl) (fun b hb => ⟨rfl, wt_up2_ne (fun z => hb z.2), rfl⟩))) (hS.put z oq (hG a _ hK hnw)) hcl hsl hl
/-- a cast that holds -/
theorem cv_cast {idx a : Nat} {x : wt_kd} {nm : String} (hc : wt_Cx l G X y cc nL fr) (hK : B.1 a = some x) (d : decode cc pc = .ok (.checkcast idx, 3)) (q : Cond.classLink y.cls idx nm ∈ lw_all) (hca : Cond.castable (wt_nm x) nm ∈ lw_tbl)
    (kk : wt_V G X (pc + 3) L (.ref a :: st) (cz G B) kc ks) : wt_V G X pc L (.ref a :: st) (cz G B) kc ks := by
  obtain ⟨p, l', e, Rm, s, m, args, below, meth, c, Q⟩ := X
  obtain ⟨rfl, hx, hbb, hown, hts, hml, hlk, hnm, hf1, hf2, hn0, hSx⟩ := hc
  intro H locs cells slots ls hZ hS hcl hsl hl
  obtain ⟨cell, g1, g2, g3, g4, -⟩ := wt_recv hSx.1 (hZ _ _ hK)
  exact va_castY hx hbb hown (hts _ q) (hSx.2.1 _ hca rfl) ⟨cell, g1, g2, g4⟩ d (kk H locs cells slots ls hZ hS hcl hsl hl)
/-- a cast to its own class -/
theorem cv_castS {idx a ci N : Nat} {C : String} {T : u_T} (hc : wt_Cx l G X y cc nL fr) (hP : cP ci C T N) (hK : B.1 a = some (.inl ci)) (d : decode cc pc = .ok (.checkcast idx, 3)) (q : Cond.classLink y.cls idx C ∈ lw_all)
    (kk : wt_V G X (pc + 3) L (.ref a :: st) (cz G B) kc ks) : wt_V G X pc L (.ref a :: st) (cz G B) kc ks := by
  obtain ⟨p, l', e, Rm, s, m, args, below, meth, c, Q⟩ := X
  obtain ⟨rfl, hx, hbb, hown, hts, hml, hlk, hnm, hf1, hf2, hn0, hSx⟩ := hc
  intro H locs cells slots ls hZ hS hcl hsl hl
  obtain ⟨r, hr, cell, h1, h2, h3, -⟩ := hZ _ _ hK
  have er : r = (C, T, N) := Option.some.inj (hr.symm.trans hP.1)
  subst er
  have hcls := (hSx.1.1 ci _ hP.1).2
  exact va_castS hx hbb hown (hts _ q) hcls ⟨cell, h1, by rw [h3]; rfl, by rw [h2]; exact hcls.1⟩ d (kk H locs cells slots ls hZ hS hcl hsl hl)
end CB
