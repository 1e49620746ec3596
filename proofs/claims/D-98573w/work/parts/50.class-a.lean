/-! CLASS ENGINE: an abstract heap that is told exactly (kinds, ints, references, longs), its rules -/
set_option maxRecDepth 100000
abbrev cB : Type := wt_Kt × wt_It × wt_Rt × wt_Jt
def cz (G : wt_G) (B : cB) : Heap → Prop := fun H => wt_Rp G B.1 B.2.1 B.2.2.1 B.2.2.2 H
/-- cells that nobody writes may be old: an Integer, an empty array of objects, an array of Integers -/
def cOld (x : wt_kd) : Bool := match x with
  | .inl ci => ci == 12
  | .inr tn => (tn.1 == 5 && tn.2 == 0) || tn.1 == 6
/-- cells that are written lie behind G.1 -/
def cOK (G : wt_G) (B : cB) : Prop := ∀ (a : Nat) (x : wt_kd), B.1 a = some x → cOld x = false → G.1 ≤ a
def cI (B : cB) (a k : Nat) (v : Int32) : cB := (B.1, wt_up2 B.2.1 a k v, B.2.2.1, B.2.2.2)
def cR (B : cB) (a k : Nat) (v : Option Nat) : cB := (B.1, B.2.1, wt_up2 B.2.2.1 a k v, B.2.2.2)
def cJ (B : cB) (a k : Nat) (v : Int64) : cB := (B.1, B.2.1, B.2.2.1, wt_up2 B.2.2.2 a k v)
def wt_rw {α : Type} (f : Nat → Nat → α) (a : Nat) (v : α) : Nat → Nat → α := fun x y => if x = a then v else f x y
/-- a new cell -/
def cN (B : cB) (a : Nat) (x : wt_kd) : cB := ((fun b => if b = a then some x else B.1 b), wt_rw B.2.1 a 0, wt_rw B.2.2.1 a none, wt_rw B.2.2.2 a 0)
/-- what is known of a class by its place -/
def cP (ci : Nat) (C : String) (T : u_T) (N : Nat) : Prop := wt_cl[ci]? = some (C, T, N) ∧ (∀ w ∈ u_ws C T N, w ∈ lw_all) ∧ (∀ k, k < N → parseFieldDescriptor (T k).2.2.1 = some (wt_ft ci k)) ∧ (∀ a, a < N → ∀ b, b < N → a ≠ b → (T a).2.1 ≠ (T b).2.1)
theorem cP0 : cP 0 RX1 TX1 17 := ⟨rfl, in_X1, tyX1_ok, nmX1⟩
theorem cP1 : cP 1 RX2 TX2 8 := ⟨rfl, in_X2, tyX2_ok, nmX2⟩
theorem cP2 : cP 2 RX6 TX6 3 := ⟨rfl, in_X6, tyX6_ok, nmX6⟩
theorem cP3 : cP 3 RX11 TX11 12 := ⟨rfl, in_X11, tyX11_ok, nmX11⟩
theorem cP4 : cP 4 RX12 TX12 4 := ⟨rfl, in_X12, tyX12_ok, nmX12⟩
theorem cP5 : cP 5 RX4 TX4 9 := ⟨rfl, in_X4, tyX4_ok, nmX4⟩
theorem cP6 : cP 6 RX5 TX5 7 := ⟨rfl, in_X5, tyX5_ok, nmX5⟩
theorem cP7 : cP 7 RX7 TX7 2 := ⟨rfl, in_X7, tyX7_ok, nmX7⟩
theorem cP8 : cP 8 RX8 TX8 1 := ⟨rfl, in_X8, tyX8_ok, nmX8⟩
theorem cP9 : cP 9 RX9 TX9 1 := ⟨rfl, in_X9, tyX9_ok, nmX9⟩
theorem cP10 : cP 10 RX10 TX10 1 := ⟨rfl, in_X10, tyX10_ok, nmX10⟩
theorem cP11 : cP 11 RJ2 TJ2 3 := ⟨rfl, in_J2, tyJ2_ok, nmJ2⟩
theorem cP12 : cP 12 RJ15 TJ15 1 := ⟨rfl, in_J15, tyJ15_ok, nmJ15⟩
theorem cP13 : cP 13 RJ19 TJ19 4 := ⟨rfl, in_J19, tyJ19_ok, nmJ19⟩
theorem cP14 : cP 14 RX3 TX3 76 := ⟨rfl, in_X3, tyX3_ok, nmX3⟩
/-- a field's declaring class, or the class that inherits it -/
def wt_sf (ref : String) (t : String × String × String × Bool) : Prop := t.1 = ref ∨ Cond.sameField ref t.1 t.2.1 t.2.2.1 ∈ lw_all
theorem wt_sf.use {ref : String} {t : String × String × String × Bool} {s : State} {args : Array Value} (hts : ∀ w ∈ lw_all, w.before args s = true) (h : wt_sf ref t) : ∀ x, s.fieldFound? t.1 t.2.1 t.2.2.1 = some x → s.fieldFound? ref t.2.1 t.2.2.1 = some x := by
  rcases h with h | h
  · intro x hx
    rw [h] at hx
    exact hx
  · exact u_same (hts _ h)
theorem cOld_fin {ci N k : Nat} {C : String} {T : u_T} (hP : wt_cl[ci]? = some (C, T, N)) (hk : k < N) (hfin : (T k).2.2.2 = false) : cOld (.inl ci) = false := by
  by_cases e : ci = 12
  · subst e
    have hq : (RJ15, TJ15, 1) = (C, T, N) := Option.some.inj hP
    cases hq
    have e0 : k = 0 := by omega
    subst e0
    cases hfin
  · show (ci == 12) = false
    simpa using e
section CA
variable {l : Launch} {G : wt_G} {X : wt_X} {y : MethodName} {cc : ByteArray} {nL fr pc : Nat} {L : List (Option Value)} {st : List Value} {B : cB} {kc ks : Nat}
/-- a field is read -/
theorem cv_get {idx a ci N : Nat} {ref C : String} {T : u_T} (k : Nat) (v : Value) (hc : wt_Cx l G X y cc nL fr) (hP : cP ci C T N) (hK : B.1 a = some (.inl ci)) (d : decode cc pc = .ok (.getfield idx, 3)) (q : Cond.fieldLink y.cls idx ref (T k).2.1 (T k).2.2.1 ∈ lw_all) (hk : k < N) (hd : wt_sf ref (T k)) (hv : wt_fv (wt_ft ci k) (B.2.1 a k) (B.2.2.1 a k) (B.2.2.2 a k) = v)
    (kk : wt_V G X (pc + 3) L (v :: st) (cz G B) kc ks) : wt_V G X pc L (.ref a :: st) (cz G B) kc ks := by
  obtain ⟨p, l', e, Rm, s, m, args, below, meth, c, Q⟩ := X
  obtain ⟨rfl, hx, hbb, hown, hts, hml, hlk, hnm, hf1, hf2, hn0, hSx⟩ := hc
  intro H locs cells slots ls hZ hS hcl hsl hl
  refine wt_Wget hx hbb hts hP.2.1 hown hSx.1 hP.1 (hZ a _ hK) k hk (hts _ q) (wt_sf.use hts hd) d ?_
  rw [hv]
  exact kk H locs cells slots ls hZ hS hcl hsl hl
/-- a nest mate's field is read -/
theorem cv_getN {idx a ci N : Nat} {ref C host : String} {T : u_T} (k : Nat) (v : Value) (hc : wt_Cx l G X y cc nL fr) (hP : cP ci C T N) (hK : B.1 a = some (.inl ci)) (d : decode cc pc = .ok (.getfield idx, 3)) (q : Cond.fieldLinkNest y.cls idx ref (T k).2.1 (T k).2.2.1 host ∈ lw_tbl) (hk : k < N) (hd : wt_sf ref (T k)) (hv : wt_fv (wt_ft ci k) (B.2.1 a k) (B.2.2.1 a k) (B.2.2.2 a k) = v)
    (kk : wt_V G X (pc + 3) L (v :: st) (cz G B) kc ks) : wt_V G X pc L (.ref a :: st) (cz G B) kc ks := by
  obtain ⟨p, l', e, Rm, s, m, args, below, meth, c, Q⟩ := X
  obtain ⟨rfl, hx, hbb, hown, hts, hml, hlk, hnm, hf1, hf2, hn0, hSx⟩ := hc
  intro H locs cells slots ls hZ hS hcl hsl hl
  refine wt_WgetN hx hbb hts hP.2.1 hown hSx.1 hP.1 (hZ a _ hK) k hk (va_Nw.use (A := args) rfl (hSx.2.1 _ q rfl)) (wt_sf.use hts hd) d ?_
  rw [hv]
  exact kk H locs cells slots ls hZ hS hcl hsl hl
theorem cz_put {B' : cB} {H H1 : Heap} {a : Nat} {x : wt_kd} (hZ : cz G B H) (oq : ∀ q : Nat, q ≠ a → H1[q]? = H[q]?) (eK : B'.1 = B.1) (ha : B.1 a = some x) (eo : ∀ b, b ≠ a → B'.2.1 b = B.2.1 b ∧ B'.2.2.1 b = B.2.2.1 b ∧ B'.2.2.2 b = B.2.2.2 b) (hh : wt_hold G x a (B'.2.1 a) (B'.2.2.1 a) (B'.2.2.2 a) H1) : cz G B' H1 := by
  intro b z hb
  rw [eK] at hb
  by_cases e : b = a
  · subst e
    cases ha.symm.trans hb
    exact hh
  · obtain ⟨e1, e2, e3⟩ := eo b e
    rw [e1, e2, e3]
    exact (hZ b z hb).kept (oq b e)
/-- an int field is written -/
theorem cv_puti {idx a ci N : Nat} {ref C : String} {T : u_T} {x : Int32} (k : Nat) (hc : wt_Cx l G X y cc nL fr) (hG : cOK G B) (hP : cP ci C T N) (hK : B.1 a = some (.inl ci)) (d : decode cc pc = .ok (.putfield idx, 3)) (q : Cond.fieldLink y.cls idx ref (T k).2.1 (T k).2.2.1 ∈ lw_all) (hk : k < N) (ht : ∀ i r j, wt_fv (wt_ft ci k) i r j = .int i) (hd : wt_sf ref (T k)) (hfin : (T k).2.2.2 = false) (hn : narrow (wt_ft ci k) (.int x) = .int x) (hfit : fits (wt_ft ci k) (.int x) = true)
    (kk : wt_V G X (pc + 3) L st (cz G (cI B a k x)) kc ks) : wt_V G X pc L (.int x :: .ref a :: st) (cz G B) kc ks := by
  obtain ⟨p, l', e, Rm, s, m, args, below, meth, c, Q⟩ := X
  obtain ⟨rfl, hx, hbb, hown, hts, hml, hlk, hnm, hf1, hf2, hn0, hSx⟩ := hc
  intro H locs cells slots ls hZ hS hcl hsl hl
  refine wt_Wput (I' := wt_up2 B.2.1 a k x a) (R' := B.2.2.1 a) (J' := B.2.2.2 a) hx hbb hts hP.2.1 (wt_ft ci) hP.2.2.1 hP.2.2.2 hown hSx.1 hP.1 (hZ a _ hK) hS (hG a _ hK (cOld_fin hP.1 hk hfin)) k hk (hts _ q) (wt_sf.use hts hd) hfin hn hfit ((ht _ _ _).trans (congrArg Value.int (wt_up2_self _ _ _ _))) (fun j hj => ⟨wt_up2_ne (fun z => hj z.2), rfl, rfl⟩) d (fun H1 locs1 oq hh hS1 => ?_)
  exact kk H1 locs1 cells slots ls (cz_put hZ oq rfl hK (fun b hb => ⟨wt_up2_row hb, rfl, rfl⟩) hh) hS1 hcl hsl hl
/-- a reference field is written -/
theorem cv_putr {idx a ci N : Nat} {ref C : String} {T : u_T} {x : Option Nat} (k : Nat) (hc : wt_Cx l G X y cc nL fr) (hG : cOK G B) (hP : cP ci C T N) (hK : B.1 a = some (.inl ci)) (d : decode cc pc = .ok (.putfield idx, 3)) (q : Cond.fieldLink y.cls idx ref (T k).2.1 (T k).2.2.1 ∈ lw_all) (hk : k < N) (ht : ∀ i r j, wt_fv (wt_ft ci k) i r j = va_rf r) (hd : wt_sf ref (T k)) (hfin : (T k).2.2.2 = false) (hn : narrow (wt_ft ci k) (va_rf x) = va_rf x) (hfit : fits (wt_ft ci k) (va_rf x) = true)
    (kk : wt_V G X (pc + 3) L st (cz G (cR B a k x)) kc ks) : wt_V G X pc L (va_rf x :: .ref a :: st) (cz G B) kc ks := by
  obtain ⟨p, l', e, Rm, s, m, args, below, meth, c, Q⟩ := X
  obtain ⟨rfl, hx, hbb, hown, hts, hml, hlk, hnm, hf1, hf2, hn0, hSx⟩ := hc
  intro H locs cells slots ls hZ hS hcl hsl hl
  refine wt_Wput (I' := B.2.1 a) (R' := wt_up2 B.2.2.1 a k x a) (J' := B.2.2.2 a) hx hbb hts hP.2.1 (wt_ft ci) hP.2.2.1 hP.2.2.2 hown hSx.1 hP.1 (hZ a _ hK) hS (hG a _ hK (cOld_fin hP.1 hk hfin)) k hk (hts _ q) (wt_sf.use hts hd) hfin hn hfit ((ht _ _ _).trans (congrArg va_rf (wt_up2_self _ _ _ _))) (fun j hj => ⟨rfl, wt_up2_ne (fun z => hj z.2), rfl⟩) d (fun H1 locs1 oq hh hS1 => ?_)
  exact kk H1 locs1 cells slots ls (cz_put hZ oq rfl hK (fun b hb => ⟨rfl, wt_up2_row hb, rfl⟩) hh) hS1 hcl hsl hl
/-- arrays of ints -/
theorem cv_iald {a n : Nat} {i : Int32} (j : Nat) (v : Int32) (hc : wt_Cx l G X y cc nL fr) (hK : B.1 a = some (.inr (0, n))) (d : decode cc pc = .ok (.iaload, 1)) (hi : i = nI j) (hj : j < n) (hs : n < 2 ^ 31) (hv : B.2.1 a j = v)
    (kk : wt_V G X (pc + 1) L (.int v :: st) (cz G B) kc ks) : wt_V G X pc L (.int i :: .ref a :: st) (cz G B) kc ks := by
  obtain ⟨p, l', e, Rm, s, m, args, below, meth, c, Q⟩ := X
  obtain ⟨rfl, hx, hbb, hown, hts, hml, hlk, hnm, hf1, hf2, hn0, hSx⟩ := hc
  intro H locs cells slots ls hZ hS hcl hsl hl
  subst hi
  refine wt_Wiald hx hbb hSx.1 (hZ _ _ hK) (vp_in_nI hj hs) d ?_
  rw [nI_clamp (by omega), hv]
  exact kk H locs cells slots ls hZ hS hcl hsl hl
theorem cv_bald {a n : Nat} {i : Int32} (j : Nat) (v : Int32) (hc : wt_Cx l G X y cc nL fr) (hK : B.1 a = some (.inr (1, n))) (d : decode cc pc = .ok (.baload, 1)) (hi : i = nI j) (hj : j < n) (hs : n < 2 ^ 31) (hv : B.2.1 a j = v)
    (kk : wt_V G X (pc + 1) L (.int v :: st) (cz G B) kc ks) : wt_V G X pc L (.int i :: .ref a :: st) (cz G B) kc ks := by
  obtain ⟨p, l', e, Rm, s, m, args, below, meth, c, Q⟩ := X
  obtain ⟨rfl, hx, hbb, hown, hts, hml, hlk, hnm, hf1, hf2, hn0, hSx⟩ := hc
  intro H locs cells slots ls hZ hS hcl hsl hl
  subst hi
  refine wt_Wbald hx hbb hSx.1 (hZ _ _ hK) (vp_in_nI hj hs) d ?_
  rw [nI_clamp (by omega), hv]
  exact kk H locs cells slots ls hZ hS hcl hsl hl
theorem cv_iast {a n : Nat} {i x : Int32} (j : Nat) (hc : wt_Cx l G X y cc nL fr) (hG : cOK G B) (hK : B.1 a = some (.inr (0, n))) (d : decode cc pc = .ok (.iastore, 1)) (hi : i = nI j) (hj : j < n) (hs : n < 2 ^ 31)
    (kk : wt_V G X (pc + 1) L st (cz G (cI B a j x)) kc ks) : wt_V G X pc L (.int x :: .int i :: .ref a :: st) (cz G B) kc ks := by
  obtain ⟨p, l', e, Rm, s, m, args, below, meth, c, Q⟩ := X
  obtain ⟨rfl, hx, hbb, hown, hts, hml, hlk, hnm, hf1, hf2, hn0, hSx⟩ := hc
  intro H locs cells slots ls hZ hS hcl hsl hl
  subst hi
  refine wt_Wiast (I' := wt_up2 B.2.1 a j x a) hx hbb hSx.1 (hZ _ _ hK) hS (hG a _ hK rfl) (vp_in_nI hj hs) (by rw [nI_clamp (by omega), wt_up2_self]) (fun b hb => wt_up2_ne (fun z => hb (by rw [nI_clamp (by omega)]; exact z.2))) d (fun H1 locs1 oq hh hS1 => ?_)
  exact kk H1 locs1 cells slots ls (cz_put hZ oq rfl hK (fun b hb => ⟨wt_up2_row hb, rfl, rfl⟩) hh) hS1 hcl hsl hl
theorem cv_alen {a t n : Nat} (hc : wt_Cx l G X y cc nL fr) (hK : B.1 a = some (.inr (t, n))) (d : decode cc pc = .ok (.arraylength, 1))
    (kk : wt_V G X (pc + 1) L (.int (nI n) :: st) (cz G B) kc ks) : wt_V G X pc L (.ref a :: st) (cz G B) kc ks := by
  obtain ⟨p, l', e, Rm, s, m, args, below, meth, c, Q⟩ := X
  obtain ⟨rfl, hx, hbb, hown, hts, hml, hlk, hnm, hf1, hf2, hn0, hSx⟩ := hc
  intro H locs cells slots ls hZ hS hcl hsl hl
  exact wt_Walen hx hbb hSx.1 (hZ _ _ hK) d (kk H locs cells slots ls hZ hS hcl hsl hl)
/-- an array's reference is read: of objects, of arrays of ints -/
theorem cv_aald {a t n : Nat} {i : Int32} (j : Nat) (v : Option Nat) (hc : wt_Cx l G X y cc nL fr) (hK : B.1 a = some (.inr (t, n))) (ht : 4 ≤ t) (d : decode cc pc = .ok (.aaload, 1)) (hi : i = nI j) (hj : j < n) (hs : n < 2 ^ 31) (hv : B.2.2.1 a j = v)
    (kk : wt_V G X (pc + 1) L (va_rf v :: st) (cz G B) kc ks) : wt_V G X pc L (.int i :: .ref a :: st) (cz G B) kc ks := by
  obtain ⟨p, l', e, Rm, s, m, args, below, meth, c, Q⟩ := X
  obtain ⟨rfl, hx, hbb, hown, hts, hml, hlk, hnm, hf1, hf2, hn0, hSx⟩ := hc
  intro H locs cells slots ls hZ hS hcl hsl hl
  subst hi
  have hh := hZ _ _ hK
  have k0 := kk H locs cells slots ls hZ hS hcl hsl hl
  have hin : ¬ (nI j < 0 ∨ n ≤ (nI j).toNatClampNeg) := vp_in_nI hj hs
  have h7 := hh.1
  have key : ∀ ty : FieldType, ty.isReference = true → (wt_tys G)[t]? = some (G.2.2.1 t, ty) → (∀ i r j, wt_fv (wt_aty t) i r j = va_rf r) → W p l' e Rm s m args below meth c H locs cells slots Q (F0 m pc ls (.int (nI j) :: .ref a :: st)) := by
    intro ty hr hty hf
    refine W.aald (v := va_rf v) (ty := ty) hx hbb hh.2 ((hSx.1.2 t _ hty).1 n _) hr (fun q => by cases q) (by show ¬ (nI j < 0 ∨ (arrV _ _ _).slots.size ≤ _); rw [arrV_size]; exact hin) ?_ rfl rfl d k0
    show (arrV _ _ _).slots[_]? = _
    rw [nI_clamp (by omega), arrV_read _ _ hj, hf, hv]
  match t, ht, h7, key with
  | 4, _, _, key => exact key _ rfl rfl (fun _ _ _ => rfl)
  | 5, _, _, key => exact key _ rfl rfl (fun _ _ _ => rfl)
  | 6, _, _, key => exact key _ rfl rfl (fun _ _ _ => rfl)
  | t + 7, _, h, _ => exact absurd h (by show ¬ (t + 7 < 7); omega)
theorem cN_hold {H H1 : Heap} {x : wt_kd} (hZ : cz G B H) (o : ∀ q : Nat, q < H.size → H1[q]? = H[q]?) (hh : wt_hold G x H.size (fun _ => 0) (fun _ => none) (fun _ => 0) H1) : cz G (cN B H.size x) H1 := by
  intro b z hb
  by_cases e : b = H.size
  · subst e
    have hb' : some x = some z := by
      have : (cN B H.size x).1 H.size = some x := if_pos rfl
      rw [← this]; exact hb
    cases hb'
    have e1 : (cN B H.size x).2.1 H.size = fun _ => 0 := funext fun k => if_pos rfl
    have e2 : (cN B H.size x).2.2.1 H.size = fun _ => none := funext fun k => if_pos rfl
    have e3 : (cN B H.size x).2.2.2 H.size = fun _ => 0 := funext fun k => if_pos rfl
    rw [e1, e2, e3]
    exact hh
  · have hb' : B.1 b = some z := by
      have : (cN B H.size x).1 b = B.1 b := if_neg e
      rw [← this]; exact hb
    have e1 : (cN B H.size x).2.1 b = B.2.1 b := funext fun k => if_neg e
    have e2 : (cN B H.size x).2.2.1 b = B.2.2.1 b := funext fun k => if_neg e
    have e3 : (cN B H.size x).2.2.2 b = B.2.2.2 b := funext fun k => if_neg e
    rw [e1, e2, e3]
    exact (hZ b z hb').kept (o b (hZ.lt hb'))
theorem cz_fresh {H : Heap} (hZ : cz G B H) : ∀ b, H.size ≤ b → B.1 b = none := by
  intro b hb
  cases h : B.1 b with
  | none => rfl
  | some x => exact absurd (hZ.lt h) (Nat.not_lt.mpr hb)
/-- a new array of ints, bytes, booleans, longs -/
theorem cv_newa {atype : ArrayType} {t N : Nat} {n : Int32} (hc : wt_Cx l G X y cc nL fr) (d : decode cc pc = .ok (.newarray atype, 2)) (q : Cond.arrayClass (newarray.typeOf atype) ∈ lw_all) (hty : (wt_tys G)[t]? = some (G.2.2.1 t, newarray.typeOf atype)) (hat : wt_aty t = newarray.typeOf atype) (ht : t < 4) (hn : n = nI N) (hN : N < 2 ^ 26) (h1 : 1 ≤ kc) (h2 : N ≤ ks) (hb8 : componentBytes (newarray.typeOf atype) ≤ 8) (hdef : defaultValue (newarray.typeOf atype) = wt_fv (wt_aty t) 0 none 0)
    (kk : ∀ a, G.1 ≤ a → (∀ b, a ≤ b → B.1 b = none) → wt_V G X (pc + 2) L (.ref a :: st) (cz G (cN B a (.inr (t, N)))) (kc - 1) (ks - N)) : wt_V G X pc L (.int n :: st) (cz G B) kc ks := by
  obtain ⟨p, l', e, Rm, s, m, args, below, meth, c, Q⟩ := X
  obtain ⟨rfl, hx, hbb, hown, hts, hml, hlk, hnm, hf1, hf2, hn0, hSx⟩ := hc
  intro H locs cells slots ls hZ hS hcl hsl hl
  subst hn
  refine va_newaK hx hbb (hts _ q) rfl d rfl (nI_pos (by omega)) (nI_clamp (by omega)) (Nat.le_trans (Nat.mul_le_mul_left N hb8) (by omega)) (by omega) (by omega) rfl fun H1 cA e1 z1 o1 hAr hNm => ?_
  have hcA : cA = G.2.2.1 t := by
    have h2 : va_RA s (G.2.2.1 t) (newarray.typeOf atype) := (hSx.1.2 t _ hty).2
    clear hty hat hdef hb8 hAr e1 kk d q
    cases atype <;> exact Option.some.inj (hNm.symm.trans h2)
  subst hcA
  have hS1 : va_S (fun q => G.1 ≤ q) s.heap H1 locs := ⟨Nat.le_trans hS.1 (by omega), fun x h1 h2 => (o1 x (Nat.lt_of_lt_of_le h1 hS.1)).trans (hS.2.1 x h1 h2), hS.2.2⟩
  refine kk H.size (Nat.le_trans hn0 hS.1) (cz_fresh hZ) H1 locs (cells + 1) (slots + N) ls (cN_hold hZ o1 ⟨by show t < 7; omega, ?_⟩) hS1 (by omega) (by omega) hl
  rw [e1, hdef]
end CA
