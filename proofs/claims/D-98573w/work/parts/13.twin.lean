/-! ENGINE: fields and arrays; the reference as one memory: row 0 its int fields, row k the array that its field k holds -/
set_option maxRecDepth 100000
section WTF
variable {p : Program} {l : Launch} {e : Env} {Rm : Room} {s : State} {m : MethodId} {args : Array Value} {below : List Frame} {meth : Method} {c : Code} {H : Heap} {locs : List Loc} {cells slots : Nat} {Q : State → Prop}
variable {cc : ByteArray} {pc : Nat} {ls : Array Slot} {rest : List Value} {G : wt_G}
/-- a field is read -/
theorem wt_Wget (hexec : p.tables.exec = Jvm.exec) (hb : c.code = cc) {own ref C : String} {T : u_T} {N ci index a : Nat} (hts : ∀ w ∈ lw_all, w.before args s = true) (hin : ∀ w ∈ u_ws C T N, w ∈ lw_all) (hown : s.vm.findClass own = some m.cls) (hK : va_K G.2.1 wt_cl (wt_tys G) s) (hcl : wt_cl[ci]? = some (C, T, N)) {I : Nat → Int32} {R : Nat → Option Nat} {J : Nat → Int64} (hh : wt_hold G (.inl ci) a I R J H) (k : Nat) (hk : k < N)
    (hlink : (Cond.fieldLink own index ref (T k).2.1 (T k).2.2.1).before args s = true) (hsame : ∀ x, s.fieldFound? (T k).1 (T k).2.1 (T k).2.2.1 = some x → s.fieldFound? ref (T k).2.1 (T k).2.2.1 = some x) (hdg : decode cc pc = .ok (.getfield index, 3))
    (kk : W p l e Rm s m args below meth c H locs cells slots Q (F0 m (pc + 3) ls (wt_fv (wt_ft ci k) (I k) (R k) (J k) :: rest))) : W p l e Rm s m args below meth c H locs cells slots Q (F0 m pc ls (.ref a :: rest)) := by
  obtain ⟨r, h1, cell, q1, q2, q3, q4⟩ := hh
  have hr : r = (C, T, N) := Option.some.inj (h1.symm.trans hcl)
  subst hr
  obtain ⟨hS, hfc, kC, hkC, hkind⟩ := hK.1 ci _ hcl
  obtain ⟨cf, kf, fi, f, hi, hsl⟩ := hS k hk
  refine W.getf hexec hb hown hlink (hsame _ hi) (u_facts hfc hkC (u_lays hts hin hk) hi).1 q1 (by rw [q3]; exact fun h => by cases h) (v := wt_fv (wt_ft ci k) (I k) (R k) (J k)) ?_ rfl rfl hdg kk
  rw [hsl]
  exact q4 k hk
theorem wt_WgetN (hexec : p.tables.exec = Jvm.exec) (hb : c.code = cc) {own ref C host : String} {T : u_T} {N ci index a : Nat} (hts : ∀ w ∈ lw_all, w.before args s = true) (hin : ∀ w ∈ u_ws C T N, w ∈ lw_all) (hown : s.vm.findClass own = some m.cls) (hK : va_K G.2.1 wt_cl (wt_tys G) s) (hcl : wt_cl[ci]? = some (C, T, N)) {I : Nat → Int32} {R : Nat → Option Nat} {J : Nat → Int64} (hh : wt_hold G (.inl ci) a I R J H) (k : Nat) (hk : k < N)
    (hlink : (Cond.fieldLinkNest own index ref (T k).2.1 (T k).2.2.1 host).before args s = true) (hsame : ∀ x, s.fieldFound? (T k).1 (T k).2.1 (T k).2.2.1 = some x → s.fieldFound? ref (T k).2.1 (T k).2.2.1 = some x) (hdg : decode cc pc = .ok (.getfield index, 3))
    (kk : W p l e Rm s m args below meth c H locs cells slots Q (F0 m (pc + 3) ls (wt_fv (wt_ft ci k) (I k) (R k) (J k) :: rest))) : W p l e Rm s m args below meth c H locs cells slots Q (F0 m pc ls (.ref a :: rest)) := by
  obtain ⟨r, h1, cell, q1, q2, q3, q4⟩ := hh
  have hr : r = (C, T, N) := Option.some.inj (h1.symm.trans hcl)
  subst hr
  obtain ⟨hS, hfc, kC, hkC, hkind⟩ := hK.1 ci _ hcl
  obtain ⟨cf, kf, fi, f, hi, hsl⟩ := hS k hk
  refine va_Wgetf hexec hb hown hlink (hsame _ hi) (u_facts hfc hkC (u_lays hts hin hk) hi).1 q1 (by rw [q3]; exact fun h => by cases h) (v := wt_fv (wt_ft ci k) (I k) (R k) (J k)) ?_ rfl rfl hdg kk
  rw [hsl]
  exact q4 k hk
/-- a field is written -/
theorem wt_Wput (hexec : p.tables.exec = Jvm.exec) (hb : c.code = cc) {own ref C : String} {T : u_T} {N ci index a : Nat} (hts : ∀ w ∈ lw_all, w.before args s = true) (hin : ∀ w ∈ u_ws C T N, w ∈ lw_all) (ty0 : Nat → FieldType) (hty : ∀ k, k < N → parseFieldDescriptor (T k).2.2.1 = some (ty0 k)) (hnm : ∀ a, a < N → ∀ b, b < N → a ≠ b → (T a).2.1 ≠ (T b).2.1) (hown : s.vm.findClass own = some m.cls) (hK : va_K G.2.1 wt_cl (wt_tys G) s) (hcl : wt_cl[ci]? = some (C, T, N)) {I I' : Nat → Int32} {R R' : Nat → Option Nat} {J J' : Nat → Int64} (hh : wt_hold G (.inl ci) a I R J H) (hS0 : va_S (fun q => G.1 ≤ q) s.heap H locs) (ha : G.1 ≤ a) (k : Nat) (hk : k < N)
    (hlink : (Cond.fieldLink own index ref (T k).2.1 (T k).2.2.1).before args s = true) (hsame : ∀ x, s.fieldFound? (T k).1 (T k).2.1 (T k).2.2.1 = some x → s.fieldFound? ref (T k).2.1 (T k).2.2.1 = some x) (hfin : (T k).2.2.2 = false) {v : Value} (hn : narrow (ty0 k) v = v) (hfit : fits (ty0 k) v = true)
    (hv : wt_fv (wt_ft ci k) (I' k) (R' k) (J' k) = v) (ho : ∀ j, j ≠ k → I' j = I j ∧ R' j = R j ∧ J' j = J j) (hdg : decode cc pc = .ok (.putfield index, 3))
    (kk : ∀ (H1 : Heap) (locs1 : List Loc), (∀ q : Nat, q ≠ a → H1[q]? = H[q]?) → wt_hold G (.inl ci) a I' R' J' H1 → va_S (fun q => G.1 ≤ q) s.heap H1 locs1 → W p l e Rm s m args below meth c H1 locs1 cells slots Q (F0 m (pc + 3) ls rest)) : W p l e Rm s m args below meth c H locs cells slots Q (F0 m pc ls (v :: .ref a :: rest)) := by
  have hap := va_apart (own := own) hts hin ty0 hty hnm hK hcl
  obtain ⟨r, h1, cell, q1, q2, q3, q4⟩ := hh
  have hr : r = (C, T, N) := Option.some.inj (h1.symm.trans hcl)
  subst hr
  obtain ⟨hS, hfc, kC, hkC, hkind⟩ := hK.1 ci _ hcl
  obtain ⟨cf, kf, fi, f, hi, hsl⟩ := hS k hk
  have hlay := hts _ (hin _ (u_in_lay hk))
  unfold u_lay at hlay
  rw [if_neg (by rw [hfin]; decide)] at hlay
  have hst := (u_facts hfc hkC (u_lays hts hin hk) hi).1
  have h6 := u_store hfc hkC hkind hlay hi (hty k hk) hn hfit
  refine W.putK hexec hb (f := f) ⟨hown, hlink, ⟨_, _, _, hsame _ hi⟩, hst⟩ (by rw [q2]; exact h6) q1 q3 (by rw [hsl]; exact k2_hasslot (q4 k hk)) rfl rfl hdg fun H' e1 e2 e3 => ?_
  rw [hsl] at e1 ⊢
  refine kk H' _ e3 ⟨_, hcl, t_OB.to (V := updV (fun k => wt_fv (wt_ft ci k) (I k) (R k) (J k)) k v) ⟨_, e1, q2, q3, t_set q4 hap hk v⟩ (fun j _ => ?_)⟩ (hS0.put e2 e3 ha)
  by_cases hj : j = k
  · subst hj
    simp only [updV, if_true]
    exact hv.symm
  · obtain ⟨o1, o2, o3⟩ := ho j hj
    simp only [updV, hj, if_false]
    rw [o1, o2, o3]
/-- an int of an array is read -/
theorem wt_Wiald (hexec : p.tables.exec = Jvm.exec) (hb : c.code = cc) (hK : va_K G.2.1 wt_cl (wt_tys G) s) {a n : Nat} {I : Nat → Int32} {R : Nat → Option Nat} {J : Nat → Int64} (hh : wt_hold G (.inr (0, n)) a I R J H) {i : Int32} (hin : vp_in i n) (hdg : decode cc pc = .ok (.iaload, 1))
    (kk : W p l e Rm s m args below meth c H locs cells slots Q (F0 m (pc + 1) ls (.int (I i.toNatClampNeg) :: rest))) : W p l e Rm s m args below meth c H locs cells slots Q (F0 m pc ls (.int i :: .ref a :: rest)) := by
  have hlt : i.toNatClampNeg < n := Nat.not_le.mp fun q => hin (Or.inr q)
  exact W.iald (v := .int (I i.toNatClampNeg)) hexec hb hh.2 ((hK.2 0 _ rfl).1 n _) (fun q => by cases q) (by show ¬ (i < 0 ∨ (arrV _ _ _).slots.size ≤ _); rw [arrV_size]; exact hin) (arrV_read _ _ hlt) rfl rfl hdg kk
theorem wt_Wzald (hexec : p.tables.exec = Jvm.exec) (hb : c.code = cc) (hK : va_K G.2.1 wt_cl (wt_tys G) s) {a n : Nat} {I : Nat → Int32} {R : Nat → Option Nat} {J : Nat → Int64} (hh : wt_hold G (.inr (2, n)) a I R J H) {i : Int32} (hin : vp_in i n) (hdg : decode cc pc = .ok (.baload, 1))
    (kk : W p l e Rm s m args below meth c H locs cells slots Q (F0 m (pc + 1) ls (.int (I i.toNatClampNeg) :: rest))) : W p l e Rm s m args below meth c H locs cells slots Q (F0 m pc ls (.int i :: .ref a :: rest)) := by
  have hlt : i.toNatClampNeg < n := Nat.not_le.mp fun q => hin (Or.inr q)
  exact W.zald (v := .int (I i.toNatClampNeg)) hexec hb hh.2 ((hK.2 2 _ rfl).1 n _) (fun q => by cases q) (by show ¬ (i < 0 ∨ (arrV _ _ _).slots.size ≤ _); rw [arrV_size]; exact hin) (arrV_read _ _ hlt) rfl rfl hdg kk
theorem wt_Wbald (hexec : p.tables.exec = Jvm.exec) (hb : c.code = cc) (hK : va_K G.2.1 wt_cl (wt_tys G) s) {a n : Nat} {I : Nat → Int32} {R : Nat → Option Nat} {J : Nat → Int64} (hh : wt_hold G (.inr (1, n)) a I R J H) {i : Int32} (hin : vp_in i n) (hdg : decode cc pc = .ok (.baload, 1))
    (kk : W p l e Rm s m args below meth c H locs cells slots Q (F0 m (pc + 1) ls (.int (I i.toNatClampNeg) :: rest))) : W p l e Rm s m args below meth c H locs cells slots Q (F0 m pc ls (.int i :: .ref a :: rest)) := by
  have hlt : i.toNatClampNeg < n := Nat.not_le.mp fun q => hin (Or.inr q)
  exact W.bald (v := .int (I i.toNatClampNeg)) hexec hb hh.2 ((hK.2 1 _ rfl).1 n _) (fun q => by cases q) (by show ¬ (i < 0 ∨ (arrV _ _ _).slots.size ≤ _); rw [arrV_size]; exact hin) (arrV_read _ _ hlt) rfl rfl hdg kk
theorem wt_Wlald (hexec : p.tables.exec = Jvm.exec) (hb : c.code = cc) (hK : va_K G.2.1 wt_cl (wt_tys G) s) {a n : Nat} {I : Nat → Int32} {R : Nat → Option Nat} {J : Nat → Int64} (hh : wt_hold G (.inr (3, n)) a I R J H) {i : Int32} (hin : vp_in i n) (hdg : decode cc pc = .ok (.laload, 1))
    (kk : W p l e Rm s m args below meth c H locs cells slots Q (F0 m (pc + 1) ls (.long (J i.toNatClampNeg) :: rest))) : W p l e Rm s m args below meth c H locs cells slots Q (F0 m pc ls (.int i :: .ref a :: rest)) := by
  have hlt : i.toNatClampNeg < n := Nat.not_le.mp fun q => hin (Or.inr q)
  exact W.lald (v := .long (J i.toNatClampNeg)) hexec hb hh.2 ((hK.2 3 _ rfl).1 n _) (fun q => by cases q) (by show ¬ (i < 0 ∨ (arrV _ _ _).slots.size ≤ _); rw [arrV_size]; exact hin) (arrV_read _ _ hlt) rfl rfl hdg kk
theorem wt_arr_put {H1 : Heap} {t n k a : Nat} {I I' : Nat → Int32} {R R' : Nat → Option Nat} {J J' : Nat → Int64} {v : Value} (hh : wt_hold G (.inr (t, n)) a I R J H) (e1 : H1[a]? = some ((arrV (G.2.2.1 t) n (fun k => wt_fv (wt_aty t) (I k) (R k) (J k))).setSlot k v)) (hv : wt_fv (wt_aty t) (I' k) (R' k) (J' k) = v) (ho : ∀ j, j ≠ k → I' j = I j ∧ R' j = R j ∧ J' j = J j) : wt_hold G (.inr (t, n)) a I' R' J' H1 := by
  refine ⟨hh.1, ?_⟩
  rw [e1, arrV_store]
  show some (arrV _ n _) = some (arrV _ n _)
  congr 2
  funext j
  by_cases hj : j = k
  · subst hj
    simp only [updV, if_true]
    exact hv.symm
  · obtain ⟨o1, o2, o3⟩ := ho j hj
    simp only [updV, hj, if_false]
    rw [o1, o2, o3]
theorem wt_Wiast (hexec : p.tables.exec = Jvm.exec) (hb : c.code = cc) (hK : va_K G.2.1 wt_cl (wt_tys G) s) {a n : Nat} {I I' : Nat → Int32} {R : Nat → Option Nat} {J : Nat → Int64} (hh : wt_hold G (.inr (0, n)) a I R J H) (hS0 : va_S (fun q => G.1 ≤ q) s.heap H locs) (ha : G.1 ≤ a) {i x : Int32} (hin : vp_in i n) (hv : I' i.toNatClampNeg = x) (ho : ∀ j, j ≠ i.toNatClampNeg → I' j = I j) (hdg : decode cc pc = .ok (.iastore, 1))
    (kk : ∀ (H1 : Heap) (locs1 : List Loc), (∀ q : Nat, q ≠ a → H1[q]? = H[q]?) → wt_hold G (.inr (0, n)) a I' R J H1 → va_S (fun q => G.1 ≤ q) s.heap H1 locs1 → W p l e Rm s m args below meth c H1 locs1 cells slots Q (F0 m (pc + 1) ls rest)) : W p l e Rm s m args below meth c H locs cells slots Q (F0 m pc ls (.int x :: .int i :: .ref a :: rest)) := by
  refine W.iast hexec hb hh.2 ((hK.2 0 _ rfl).1 n _) (fun q => by cases q) (by show ¬ (i < 0 ∨ (arrV _ _ _).slots.size ≤ _); rw [arrV_size]; exact hin) rfl rfl hdg fun H1 e z oq => ?_
  exact kk H1 _ oq (wt_arr_put hh e (by rw [hv]; rfl) (fun j hj => ⟨ho j hj, rfl, rfl⟩)) (hS0.put z oq ha)
theorem wt_Wlast (hexec : p.tables.exec = Jvm.exec) (hb : c.code = cc) (hK : va_K G.2.1 wt_cl (wt_tys G) s) {a n : Nat} {I : Nat → Int32} {R : Nat → Option Nat} {J J' : Nat → Int64} (hh : wt_hold G (.inr (3, n)) a I R J H) (hS0 : va_S (fun q => G.1 ≤ q) s.heap H locs) (ha : G.1 ≤ a) {i : Int32} {x : Int64} (hin : vp_in i n) (hv : J' i.toNatClampNeg = x) (ho : ∀ j, j ≠ i.toNatClampNeg → J' j = J j) (hdg : decode cc pc = .ok (.lastore, 1))
    (kk : ∀ (H1 : Heap) (locs1 : List Loc), (∀ q : Nat, q ≠ a → H1[q]? = H[q]?) → wt_hold G (.inr (3, n)) a I R J' H1 → va_S (fun q => G.1 ≤ q) s.heap H1 locs1 → W p l e Rm s m args below meth c H1 locs1 cells slots Q (F0 m (pc + 1) ls rest)) : W p l e Rm s m args below meth c H locs cells slots Q (F0 m pc ls (.long x :: .int i :: .ref a :: rest)) := by
  refine W.last hexec hb hh.2 ((hK.2 3 _ rfl).1 n _) (fun q => by cases q) (by show ¬ (i < 0 ∨ (arrV _ _ _).slots.size ≤ _); rw [arrV_size]; exact hin) rfl rfl hdg fun H1 e z oq => ?_
  exact kk H1 _ oq (wt_arr_put hh e (by rw [hv]; rfl) (fun j hj => ⟨rfl, rfl, ho j hj⟩)) (hS0.put z oq ha)
theorem wt_Wzast (hexec : p.tables.exec = Jvm.exec) (hb : c.code = cc) (hK : va_K G.2.1 wt_cl (wt_tys G) s) {a n : Nat} {I I' : Nat → Int32} {R : Nat → Option Nat} {J : Nat → Int64} (hh : wt_hold G (.inr (2, n)) a I R J H) (hS0 : va_S (fun q => G.1 ≤ q) s.heap H locs) (ha : G.1 ≤ a) {i x : Int32} (hx : narrow .boolean (.int x) = .int x) (hin : vp_in i n) (hv : I' i.toNatClampNeg = x) (ho : ∀ j, j ≠ i.toNatClampNeg → I' j = I j) (hdg : decode cc pc = .ok (.bastore, 1))
    (kk : ∀ (H1 : Heap) (locs1 : List Loc), (∀ q : Nat, q ≠ a → H1[q]? = H[q]?) → wt_hold G (.inr (2, n)) a I' R J H1 → va_S (fun q => G.1 ≤ q) s.heap H1 locs1 → W p l e Rm s m args below meth c H1 locs1 cells slots Q (F0 m (pc + 1) ls rest)) : W p l e Rm s m args below meth c H locs cells slots Q (F0 m pc ls (.int x :: .int i :: .ref a :: rest)) := by
  refine W.zast hexec hb hh.2 ((hK.2 2 _ rfl).1 n _) (fun q => by cases q) (by show ¬ (i < 0 ∨ (arrV _ _ _).slots.size ≤ _); rw [arrV_size]; exact hin) rfl rfl hdg fun H1 e z oq => ?_
  exact kk H1 _ oq (wt_arr_put hh e (by rw [hv]; exact hx.symm) (fun j hj => ⟨ho j hj, rfl, rfl⟩)) (hS0.put z oq ha)
theorem wt_Walen (hexec : p.tables.exec = Jvm.exec) (hb : c.code = cc) (hK : va_K G.2.1 wt_cl (wt_tys G) s) {a t n : Nat} {I : Nat → Int32} {R : Nat → Option Nat} {J : Nat → Int64} (hh : wt_hold G (.inr (t, n)) a I R J H) (hdg : decode cc pc = .ok (.arraylength, 1))
    (kk : W p l e Rm s m args below meth c H locs cells slots Q (F0 m (pc + 1) ls (.int (nI n) :: rest))) : W p l e Rm s m args below meth c H locs cells slots Q (F0 m pc ls (.ref a :: rest)) := by
  have ht := hh.1
  have key : ∀ ty : FieldType, (wt_tys G)[t]? = some (G.2.2.1 t, ty) → W p l e Rm s m args below meth c H locs cells slots Q (F0 m pc ls (.ref a :: rest)) := fun ty hty =>
    W.alen (n := Int32.ofNat n) hexec hb hh.2 ((hK.2 t _ hty).1 n _) (by rw [arrV_size] <;> rfl) rfl rfl hdg kk
  match t, ht, key with
  | 0, _, key => exact key _ rfl
  | 1, _, key => exact key _ rfl
  | 2, _, key => exact key _ rfl
  | 3, _, key => exact key _ rfl
  | 4, _, key => exact key _ rfl
  | 5, _, key => exact key _ rfl
  | 6, _, key => exact key _ rfl
  | t + 7, h, _ => exact absurd h (by show ¬ (t + 7 < 7); omega)
end WTF
/-- lengths of the reference's arrays, by its fields -/
def tw_len (k : Nat) : Nat := match k with
  | 7 => 100 | 8 => 5 | 9 => 5 | 10 => 40 | 11 => 32 | 12 => 4 | 13 => 2800 | 14 => 700 | 18 => 3 | 36 => 10 | 37 => 100 | 38 => 5 | 39 => 5 | 40 => 5 | 41 => 40 | 42 => 32 | 43 => 4 | 44 => 2800 | 45 => 950 | 46 => 9 | 47 => 19 | 48 => 19 | 49 => 80
  | 51 => 100 | 52 => 7 | 53 => 950 | 54 => 40 | 55 => 40 | 56 => 10 | 57 => 5 | 58 => 5 | 59 => 5 | 60 => 10 | 61 => 10 | 62 => 400 | 63 => 10 | 64 => 10 | 66 => 40 | 68 => 24 | 69 => 10 | 73 => 19 | 74 => 80 | 75 => 24
  | _ => 0
def tw_ty (k : Nat) : Nat := match k with
  | 46 => 2
  | _ => 0
/-- the reference's cell, its arrays' cells, the heap's kinds and references, the ints and longs of the other cells -/
abbrev tw_T : Type := Nat × (Nat → Nat) × wt_Kt × wt_Rt × wt_It × wt_Jt
def tw_E (G : wt_G) (T : tw_T) : Prop := T.2.2.1 T.1 = some (.inl 14) ∧ G.1 ≤ T.1 ∧ ∀ k, 0 < tw_len k → T.2.2.2.1 T.1 k = some (T.2.1 k) ∧ T.2.2.1 (T.2.1 k) = some (.inr (tw_ty k, tw_len k)) ∧ G.1 ≤ T.2.1 k ∧ T.2.1 k ≠ T.1 ∧ ∀ j, 0 < tw_len j → T.2.1 j = T.2.1 k → j = k
def tw_Vw (T : tw_T) (M : wt_It) (w : Int64) (I : wt_It) (J : wt_Jt) : Prop := (∀ k, I T.1 k = M 0 k) ∧ (∀ k, 0 < tw_len k → ∀ j, I (T.2.1 k) j = M k j) ∧ J T.1 26 = w ∧ ∀ a, a ≠ T.1 → (∀ k, 0 < tw_len k → a ≠ T.2.1 k) → I a = T.2.2.2.2.1 a ∧ J a = T.2.2.2.2.2 a
def tw_Z (G : wt_G) (T : tw_T) (M : wt_It) (w : Int64) : Heap → Prop := fun H => ∃ (I : wt_It) (J : wt_Jt), tw_Vw T M w I J ∧ wt_Rp G T.2.2.1 I T.2.2.2.1 J H
theorem tw_len0 {k : Nat} (h : 0 < tw_len k) : k ≠ 0 := by
  intro e
  subst e
  exact absurd h (by decide)
theorem wt_cl14 : wt_cl[14]? = some (RX3, TX3, 76) := rfl
section TW
variable {l : Launch} {G : wt_G} {X : wt_X} {T : tw_T} {y : MethodName} {cc : ByteArray} {nL fr pc : Nat} {L : List (Option Value)} {st : List Value} {M : wt_It} {w : Int64} {kc ks : Nat}
/-- an int field of the reference -/
theorem tw_get {idx : Nat} (k : Nat) (v : Int32) (hc : wt_Cx l G X y cc nL fr) (hE : tw_E G T) (d : decode cc pc = .ok (.getfield idx, 3)) (q : Cond.fieldLink y.cls idx RX3 (TX3 k).2.1 (TX3 k).2.2.1 ∈ lw_all) (hk : k < 76) (ht : ∀ i r j, wt_fv (tyX3 k) i r j = .int i) (hd : (TX3 k).1 = RX3) (hv : M 0 k = v)
    (kk : wt_V G X (pc + 3) L (.int v :: st) (tw_Z G T M w) kc ks) : wt_V G X pc L (.ref T.1 :: st) (tw_Z G T M w) kc ks := by
  obtain ⟨p, l', e, Rm, s, m, args, below, meth, c, Q⟩ := X
  obtain ⟨rfl, hx, hbb, hown, hts, hml, hlk, hnm, hf1, hf2, hn0, hSx⟩ := hc
  intro H locs cells slots ls hZ hS hcl hsl hl
  obtain ⟨I, J, hV, hR⟩ := hZ
  refine wt_Wget hx hbb hts in_X3 hown hSx.1 wt_cl14 (hR T.1 _ hE.1) k hk (hts _ q) (fun x h => by rw [hd] at h; exact h) d ?_
  rw [show wt_fv (wt_ft 14 k) (I T.1 k) (T.2.2.2.1 T.1 k) (J T.1 k) = .int (I T.1 k) from ht _ _ _, hV.1 k, hv]
  exact kk H locs cells slots ls ⟨I, J, hV, hR⟩ hS hcl hsl hl
/-- another way to say what the memory is -/
theorem tw_eq {M' : wt_It} (h : M' = M) (k : wt_V G X pc L st (tw_Z G T M w) kc ks) : wt_V G X pc L st (tw_Z G T M' w) kc ks := h ▸ k
/-- an array field -/
theorem tw_geta {idx : Nat} (k : Nat) (hc : wt_Cx l G X y cc nL fr) (hE : tw_E G T) (d : decode cc pc = .ok (.getfield idx, 3)) (q : Cond.fieldLink y.cls idx RX3 (TX3 k).2.1 (TX3 k).2.2.1 ∈ lw_all) (hk : k < 76) (hlen : 0 < tw_len k) (ht : ∀ i r j, wt_fv (tyX3 k) i r j = va_rf r) (hd : (TX3 k).1 = RX3)
    (kk : wt_V G X (pc + 3) L (.ref (T.2.1 k) :: st) (tw_Z G T M w) kc ks) : wt_V G X pc L (.ref T.1 :: st) (tw_Z G T M w) kc ks := by
  obtain ⟨p, l', e, Rm, s, m, args, below, meth, c, Q⟩ := X
  obtain ⟨rfl, hx, hbb, hown, hts, hml, hlk, hnm, hf1, hf2, hn0, hSx⟩ := hc
  intro H locs cells slots ls hZ hS hcl hsl hl
  obtain ⟨I, J, hV, hR⟩ := hZ
  refine wt_Wget hx hbb hts in_X3 hown hSx.1 wt_cl14 (hR T.1 _ hE.1) k hk (hts _ q) (fun x h => by rw [hd] at h; exact h) d ?_
  rw [show wt_fv (wt_ft 14 k) (I T.1 k) (T.2.2.2.1 T.1 k) (J T.1 k) = va_rf (T.2.2.2.1 T.1 k) from ht _ _ _, (hE.2.2 k hlen).1]
  exact kk H locs cells slots ls ⟨I, J, hV, hR⟩ hS hcl hsl hl
/-- the long field -/
theorem tw_getw {idx : Nat} (hc : wt_Cx l G X y cc nL fr) (hE : tw_E G T) (d : decode cc pc = .ok (.getfield idx, 3)) (q : Cond.fieldLink y.cls idx RX3 "word" "J" ∈ lw_all)
    (kk : wt_V G X (pc + 3) L (.long w :: st) (tw_Z G T M w) kc ks) : wt_V G X pc L (.ref T.1 :: st) (tw_Z G T M w) kc ks := by
  obtain ⟨p, l', e, Rm, s, m, args, below, meth, c, Q⟩ := X
  obtain ⟨rfl, hx, hbb, hown, hts, hml, hlk, hnm, hf1, hf2, hn0, hSx⟩ := hc
  intro H locs cells slots ls hZ hS hcl hsl hl
  obtain ⟨I, J, hV, hR⟩ := hZ
  refine wt_Wget hx hbb hts in_X3 hown hSx.1 wt_cl14 (hR T.1 _ hE.1) 26 (by decide) (hts _ q) (fun x h => h) d ?_
  rw [show wt_fv (wt_ft 14 26) (I T.1 26) (T.2.2.2.1 T.1 26) (J T.1 26) = .long (J T.1 26) from rfl, hV.2.2.1]
  exact kk H locs cells slots ls ⟨I, J, hV, hR⟩ hS hcl hsl hl
theorem tw_put {idx : Nat} {x : Int32} (k : Nat) (hc : wt_Cx l G X y cc nL fr) (hE : tw_E G T) (d : decode cc pc = .ok (.putfield idx, 3)) (q : Cond.fieldLink y.cls idx RX3 (TX3 k).2.1 (TX3 k).2.2.1 ∈ lw_all) (hk : k < 76) (ht : ∀ i r j, wt_fv (tyX3 k) i r j = .int i) (hd : (TX3 k).1 = RX3) (hfin : (TX3 k).2.2.2 = false) (hn : narrow (tyX3 k) (.int x) = .int x) (hfit : fits (tyX3 k) (.int x) = true)
    (kk : wt_V G X (pc + 3) L st (tw_Z G T (wt_up2 M 0 k x) w) kc ks) : wt_V G X pc L (.int x :: .ref T.1 :: st) (tw_Z G T M w) kc ks := by
  obtain ⟨p, l', e, Rm, s, m, args, below, meth, c, Q⟩ := X
  obtain ⟨rfl, hx, hbb, hown, hts, hml, hlk, hnm, hf1, hf2, hn0, hSx⟩ := hc
  intro H locs cells slots ls hZ hS hcl hsl hl
  obtain ⟨I, J, hV, hR⟩ := hZ
  refine wt_Wput (I' := wt_up2 I T.1 k x T.1) (R' := T.2.2.2.1 T.1) (J' := J T.1) hx hbb hts in_X3 tyX3 tyX3_ok nmX3 hown hSx.1 wt_cl14 (hR T.1 _ hE.1) hS hE.2.1 k hk (hts _ q) (fun x h => by rw [hd] at h; exact h) hfin hn hfit ((ht _ _ _).trans (congrArg Value.int (wt_up2_self _ _ _ _))) (fun j hj => ⟨wt_up2_ne (fun z => hj z.2), rfl, rfl⟩) d (fun H1 locs1 oq hh hS1 => ?_)
  refine kk H1 locs1 cells slots ls ⟨wt_up2 I T.1 k x, J, ⟨fun j => ?_, fun j hj i => ?_, hV.2.2.1, fun a h1 h2 => ?_⟩, fun a z ha => ?_⟩ hS1 hcl hsl hl
  · by_cases hj : j = k
    · subst hj; rw [wt_up2_self, wt_up2_self]
    · rw [wt_up2_ne (fun z => hj z.2), wt_up2_ne (fun z => hj z.2)]; exact hV.1 j
  · rw [wt_up2_ne (fun z => (hE.2.2 j hj).2.2.2.1 z.1), wt_up2_ne (fun z => tw_len0 hj z.1)]; exact hV.2.1 j hj i
  · rw [wt_up2_row h1]; exact hV.2.2.2 a h1 h2
  · by_cases hm : a = T.1
    · subst hm
      cases hE.1.symm.trans ha
      exact hh
    · rw [wt_up2_row hm]
      exact (hR a z ha).kept (oq a hm)
theorem tw_putw {idx : Nat} {x : Int64} (hc : wt_Cx l G X y cc nL fr) (hE : tw_E G T) (d : decode cc pc = .ok (.putfield idx, 3)) (q : Cond.fieldLink y.cls idx RX3 "word" "J" ∈ lw_all)
    (kk : wt_V G X (pc + 3) L st (tw_Z G T M x) kc ks) : wt_V G X pc L (.long x :: .ref T.1 :: st) (tw_Z G T M w) kc ks := by
  obtain ⟨p, l', e, Rm, s, m, args, below, meth, c, Q⟩ := X
  obtain ⟨rfl, hx, hbb, hown, hts, hml, hlk, hnm, hf1, hf2, hn0, hSx⟩ := hc
  intro H locs cells slots ls hZ hS hcl hsl hl
  obtain ⟨I, J, hV, hR⟩ := hZ
  refine wt_Wput (I' := I T.1) (R' := T.2.2.2.1 T.1) (J' := wt_up2 J T.1 26 x T.1) (v := .long x) hx hbb hts in_X3 tyX3 tyX3_ok nmX3 hown hSx.1 wt_cl14 (hR T.1 _ hE.1) hS hE.2.1 26 (by decide) (hts _ q) (fun x h => h) rfl rfl rfl (congrArg Value.long (wt_up2_self _ _ _ _)) (fun j hj => ⟨rfl, rfl, wt_up2_ne (fun z => hj z.2)⟩) d (fun H1 locs1 oq hh hS1 => ?_)
  refine kk H1 locs1 cells slots ls ⟨I, wt_up2 J T.1 26 x, ⟨hV.1, hV.2.1, wt_up2_self _ _ _ _, fun a h1 h2 => ?_⟩, fun a z ha => ?_⟩ hS1 hcl hsl hl
  · rw [wt_up2_row h1]; exact hV.2.2.2 a h1 h2
  · by_cases hm : a = T.1
    · subst hm
      cases hE.1.symm.trans ha
      exact hh
    · rw [wt_up2_row hm]
      exact (hR a z ha).kept (oq a hm)
/-- an array's place -/
theorem tw_iald {k : Nat} {i : Int32} (j : Nat) (v : Int32) (hc : wt_Cx l G X y cc nL fr) (hE : tw_E G T) (d : decode cc pc = .ok (.iaload, 1)) (ht : tw_ty k = 0) (hi : i = nI j) (hj : j < tw_len k) (hs : tw_len k < 2 ^ 31) (hv : M k j = v)
    (kk : wt_V G X (pc + 1) L (.int v :: st) (tw_Z G T M w) kc ks) : wt_V G X pc L (.int i :: .ref (T.2.1 k) :: st) (tw_Z G T M w) kc ks := by
  obtain ⟨p, l', e, Rm, s, m, args, below, meth, c, Q⟩ := X
  obtain ⟨rfl, hx, hbb, hown, hts, hml, hlk, hnm, hf1, hf2, hn0, hSx⟩ := hc
  intro H locs cells slots ls hZ hS hcl hsl hl
  obtain ⟨I, J, hV, hR⟩ := hZ
  subst hi
  have h2 := (hE.2.2 k (by omega)).2.1
  rw [ht] at h2
  refine wt_Wiald hx hbb hSx.1 (hR _ _ h2) (vp_in_nI hj hs) d ?_
  rw [nI_clamp (by omega), hV.2.1 k (by omega) j, hv]
  exact kk H locs cells slots ls ⟨I, J, hV, hR⟩ hS hcl hsl hl
theorem tw_zald {k : Nat} {i : Int32} (j : Nat) (v : Int32) (hc : wt_Cx l G X y cc nL fr) (hE : tw_E G T) (d : decode cc pc = .ok (.baload, 1)) (ht : tw_ty k = 2) (hi : i = nI j) (hj : j < tw_len k) (hs : tw_len k < 2 ^ 31) (hv : M k j = v)
    (kk : wt_V G X (pc + 1) L (.int v :: st) (tw_Z G T M w) kc ks) : wt_V G X pc L (.int i :: .ref (T.2.1 k) :: st) (tw_Z G T M w) kc ks := by
  obtain ⟨p, l', e, Rm, s, m, args, below, meth, c, Q⟩ := X
  obtain ⟨rfl, hx, hbb, hown, hts, hml, hlk, hnm, hf1, hf2, hn0, hSx⟩ := hc
  intro H locs cells slots ls hZ hS hcl hsl hl
  obtain ⟨I, J, hV, hR⟩ := hZ
  subst hi
  have h2 := (hE.2.2 k (by omega)).2.1
  rw [ht] at h2
  refine wt_Wzald hx hbb hSx.1 (hR _ _ h2) (vp_in_nI hj hs) d ?_
  rw [nI_clamp (by omega), hV.2.1 k (by omega) j, hv]
  exact kk H locs cells slots ls ⟨I, J, hV, hR⟩ hS hcl hsl hl
theorem tw_alen {k : Nat} (hc : wt_Cx l G X y cc nL fr) (hE : tw_E G T) (d : decode cc pc = .ok (.arraylength, 1)) (hk : 0 < tw_len k)
    (kk : wt_V G X (pc + 1) L (.int (nI (tw_len k)) :: st) (tw_Z G T M w) kc ks) : wt_V G X pc L (.ref (T.2.1 k) :: st) (tw_Z G T M w) kc ks := by
  obtain ⟨p, l', e, Rm, s, m, args, below, meth, c, Q⟩ := X
  obtain ⟨rfl, hx, hbb, hown, hts, hml, hlk, hnm, hf1, hf2, hn0, hSx⟩ := hc
  intro H locs cells slots ls hZ hS hcl hsl hl
  obtain ⟨I, J, hV, hR⟩ := hZ
  exact wt_Walen hx hbb hSx.1 (hR _ _ (hE.2.2 k hk).2.1) d (kk H locs cells slots ls ⟨I, J, hV, hR⟩ hS hcl hsl hl)
theorem tw_stored {k j : Nat} {x : Int32} {I : wt_It} {J : wt_Jt} {H H1 : Heap} (hE : tw_E G T) (hk : 0 < tw_len k) (hV : tw_Vw T M w I J) (hR : wt_Rp G T.2.2.1 I T.2.2.2.1 J H) (oq : ∀ q : Nat, q ≠ T.2.1 k → H1[q]? = H[q]?) (hh : wt_hold G (.inr (tw_ty k, tw_len k)) (T.2.1 k) (wt_up2 I (T.2.1 k) j x (T.2.1 k)) (T.2.2.2.1 (T.2.1 k)) (J (T.2.1 k)) H1) : tw_Z G T (wt_up2 M k j x) w H1 := by
  refine ⟨wt_up2 I (T.2.1 k) j x, J, ⟨fun i => ?_, fun i hi b => ?_, hV.2.2.1, fun a h1 h2 => ?_⟩, fun a z ha => ?_⟩
  · rw [wt_up2_ne (fun z => (hE.2.2 k hk).2.2.2.1 z.1.symm), wt_up2_ne (fun z => tw_len0 hk z.1.symm)]; exact hV.1 i
  · by_cases hik : i = k
    · subst hik
      by_cases hb : b = j
      · subst hb; rw [wt_up2_self, wt_up2_self]
      · rw [wt_up2_ne (fun z => hb z.2), wt_up2_ne (fun z => hb z.2)]; exact hV.2.1 i hi b
    · rw [wt_up2_ne (fun z => hik ((hE.2.2 k hk).2.2.2.2 i hi z.1)), wt_up2_ne (fun z => hik z.1)]; exact hV.2.1 i hi b
  · rw [wt_up2_row (h2 k hk)]; exact hV.2.2.2 a h1 h2
  · by_cases hm : a = T.2.1 k
    · subst hm
      cases (hE.2.2 k hk).2.1.symm.trans ha
      exact hh
    · rw [wt_up2_row hm]
      exact (hR a z ha).kept (oq a hm)
theorem tw_iast {k : Nat} {i x : Int32} (j : Nat) (hc : wt_Cx l G X y cc nL fr) (hE : tw_E G T) (d : decode cc pc = .ok (.iastore, 1)) (ht : tw_ty k = 0) (hi : i = nI j) (hj : j < tw_len k) (hs : tw_len k < 2 ^ 31)
    (kk : wt_V G X (pc + 1) L st (tw_Z G T (wt_up2 M k j x) w) kc ks) : wt_V G X pc L (.int x :: .int i :: .ref (T.2.1 k) :: st) (tw_Z G T M w) kc ks := by
  obtain ⟨p, l', e, Rm, s, m, args, below, meth, c, Q⟩ := X
  obtain ⟨rfl, hx, hbb, hown, hts, hml, hlk, hnm, hf1, hf2, hn0, hSx⟩ := hc
  intro H locs cells slots ls hZ hS hcl hsl hl
  obtain ⟨I, J, hV, hR⟩ := hZ
  subst hi
  have hk : 0 < tw_len k := by omega
  have h2 := (hE.2.2 k hk).2.1
  rw [ht] at h2
  refine wt_Wiast (I' := wt_up2 I (T.2.1 k) j x (T.2.1 k)) hx hbb hSx.1 (hR _ _ h2) hS (hE.2.2 k hk).2.2.1 (vp_in_nI hj hs) (by rw [nI_clamp (by omega), wt_up2_self]) (fun b hb => wt_up2_ne (fun z => hb (by rw [nI_clamp (by omega)]; exact z.2))) d (fun H1 locs1 oq hh hS1 => ?_)
  exact kk H1 locs1 cells slots ls (tw_stored hE hk hV hR oq (by rw [ht]; exact hh)) hS1 hcl hsl hl
theorem tw_zast {k : Nat} {i x : Int32} (j : Nat) (hc : wt_Cx l G X y cc nL fr) (hE : tw_E G T) (d : decode cc pc = .ok (.bastore, 1)) (ht : tw_ty k = 2) (hn : narrow .boolean (.int x) = .int x) (hi : i = nI j) (hj : j < tw_len k) (hs : tw_len k < 2 ^ 31)
    (kk : wt_V G X (pc + 1) L st (tw_Z G T (wt_up2 M k j x) w) kc ks) : wt_V G X pc L (.int x :: .int i :: .ref (T.2.1 k) :: st) (tw_Z G T M w) kc ks := by
  obtain ⟨p, l', e, Rm, s, m, args, below, meth, c, Q⟩ := X
  obtain ⟨rfl, hx, hbb, hown, hts, hml, hlk, hnm, hf1, hf2, hn0, hSx⟩ := hc
  intro H locs cells slots ls hZ hS hcl hsl hl
  obtain ⟨I, J, hV, hR⟩ := hZ
  subst hi
  have hk : 0 < tw_len k := by omega
  have h2 := (hE.2.2 k hk).2.1
  rw [ht] at h2
  refine wt_Wzast (I' := wt_up2 I (T.2.1 k) j x (T.2.1 k)) hx hbb hSx.1 (hR _ _ h2) hS (hE.2.2 k hk).2.2.1 hn (vp_in_nI hj hs) (by rw [nI_clamp (by omega), wt_up2_self]) (fun b hb => wt_up2_ne (fun z => hb (by rw [nI_clamp (by omega)]; exact z.2))) d (fun H1 locs1 oq hh hS1 => ?_)
  exact kk H1 locs1 cells slots ls (tw_stored hE hk hV hR oq (by rw [ht]; exact hh)) hS1 hcl hsl hl
end TW
/-- an answer that is known, on a heap of a kind -/
def wt_fn (r : Int32) (Z : Heap → Prop) : Option Value → Heap → Prop := fun v H => v = some (.int r) ∧ Z H
def wt_fl (r : Int64) (Z : Heap → Prop) : Option Value → Heap → Prop := fun v H => v = some (.long r) ∧ Z H
section TWC
variable {l : Launch} {G : wt_G} {X : wt_X} {T : tw_T} {y : MethodName} {cc : ByteArray} {nL fr pc : Nat} {L : List (Option Value)} {Z Z' : Heap → Prop} {M : wt_It} {w : Int64} {kc ks : Nat}
theorem wt_gofn {len : Nat} {st0 rest : List Value} {r : Int32} (hr : wt_Run G X pc len L st0 rest Z (wt_fn r Z') 0 0) (k : wt_V G X (pc + len) L (.int r :: rest) Z' kc ks) : wt_V G X pc L st0 Z kc ks := by
  obtain ⟨p, l', e, Rm, s, m, args, below, meth, c, Q⟩ := X
  intro H locs cells slots ls hZ hS hcl hsl hl TT hT XX
  obtain ⟨v, T', L', X', hS', ⟨rfl, hp⟩, st⟩ := hr H locs cells slots ls hZ hS (by omega) (by omega) hl TT hT XX
  obtain ⟨t2, a1, b1⟩ := k T'.heap (locs ++ L') (cells + 0) (slots + 0) ls hp hS' hcl hsl hl T' rfl X'
  exact ⟨t2, st t2 a1, b1⟩
theorem wt_gofl {len : Nat} {st0 rest : List Value} {r : Int64} (hr : wt_Run G X pc len L st0 rest Z (wt_fl r Z') 0 0) (k : wt_V G X (pc + len) L (.long r :: rest) Z' kc ks) : wt_V G X pc L st0 Z kc ks := by
  obtain ⟨p, l', e, Rm, s, m, args, below, meth, c, Q⟩ := X
  intro H locs cells slots ls hZ hS hcl hsl hl TT hT XX
  obtain ⟨v, T', L', X', hS', ⟨rfl, hp⟩, st⟩ := hr H locs cells slots ls hZ hS (by omega) (by omega) hl TT hT XX
  obtain ⟨t2, a1, b1⟩ := k T'.heap (locs ++ L') (cells + 0) (slots + 0) ls hp hS' hcl hsl hl T' rfl X'
  exact ⟨t2, st t2 a1, b1⟩
theorem tw_recv (hE : tw_E G T) (s : State) (H : Heap) (hSx : wt_Sx G s s.heap) (hZ : tw_Z G T M w H) : ∃ cell : Cell, H[T.1]? = some cell ∧ cell.vm.isStatics = false ∧ s.vm.findClass RX3 = some cell.cls := by
  obtain ⟨I, J, hV, hR⟩ := hZ
  obtain ⟨q, hq, cell, h1, h2, h3, -⟩ := hR T.1 _ hE.1
  have hr : q = (RX3, TX3, 76) := Option.some.inj (hq.symm.trans wt_cl14)
  subst hr
  exact ⟨cell, h1, by rw [h3]; rfl, by rw [h2]; exact (hSx.1.1 14 _ wt_cl14).2.1⟩
/-- a call of the reference's own method -/
theorem tw_inv {y' : MethodName} {cc' : ByteArray} {nL' fr' idx : Nat} {ret' : Option FieldType} {As rest st0 : List Value} {Post : Option Value → Heap → Prop} (n : Nat) (hc : wt_Cx l G X y cc nL fr) (hE : tw_E G T) (hM : wt_Ct l G y' cc' nL' ret' fr' 0 0 (.ref T.1 :: As) (tw_Z G T M w) Post) (d : decode cc pc = .ok (.invokevirtual idx, 3))
    (hst : st0 = As.reverse ++ .ref T.1 :: rest)
    (q1 : Cond.methodLink y.cls idx y' ∈ lw_all) (q2 : Cond.instanceMethod y' ∈ lw_all) (q3 : Cond.selects RX3 y' y' ∈ lw_all) (q4 : Cond.initialized RX3 ∈ lw_all) (q5 : Cond.code y' cc' nL' ret' ∈ lw_all)
    (hd : y'.cls = RX3 ∧ y'.cls ≠ "java/lang/invoke/MethodHandle" ∧ y'.cls ≠ "java/lang/invoke/VarHandle" ∧ (parseMethodDescriptor y'.desc).map (fun d => d.parameters.length) = some n) (hn : As.length = n) (hfr : fr' < fr) (hnl : nL' ≤ 45) (hw : (rest.map fun v => v.category).sum ≤ 8) (hL : L.length = nL) : wt_Run G X pc 3 L st0 rest (tw_Z G T M w) Post 0 0 :=
  wt_invV n hc hM d hst (fun s H hSx hZ => tw_recv hE s H hSx hZ) q1 q2 q3 q4 q5 hd hn hfr hnl hw hL
end TWC
