/-! THE ENGINE: an abstract heap (kinds of cells, their ints, references, longs), and the judgement W over it -/
set_option maxRecDepth 100000
/-- a cell: an object of a class (by its place in wt_cl), or an array (its type by its place in wt_aty, its length) -/
abbrev wt_kd : Type := Nat ⊕ (Nat × Nat)
abbrev wt_Kt : Type := Nat → Option wt_kd
abbrev wt_It : Type := Nat → Nat → Int32
abbrev wt_Rt : Type := Nat → Nat → Option Nat
abbrev wt_Jt : Type := Nat → Nat → Int64
/-- what is fixed for a run: the first new cell; the classes' numbers and slots; the array classes; old cells' addresses; further facts -/
abbrev wt_G : Type := Nat × va_G × (Nat → ClassId) × (Nat → Nat) × (State → Heap → Prop)
abbrev wt_X : Type := Program × Launch × Env × Room × State × MethodId × Array Value × List Frame × Method × Code × (State → Prop)
def wt_cl : List vw_C := [(RX1, TX1, 17), (RX2, TX2, 8), (RX6, TX6, 3), (RX11, TX11, 12), (RX12, TX12, 4), (RX4, TX4, 9), (RX5, TX5, 7), (RX7, TX7, 2), (RX8, TX8, 1), (RX9, TX9, 1), (RX10, TX10, 1), (RJ2, TJ2, 3), (RJ15, TJ15, 1), (RJ19, TJ19, 4), (RX3, TX3, 76)]
def wt_ft (ci : Nat) : Nat → FieldType := match ci with
  | 0 => tyX1
  | 1 => tyX2
  | 2 => tyX6
  | 3 => tyX11
  | 4 => tyX12
  | 5 => tyX4
  | 6 => tyX5
  | 7 => tyX7
  | 8 => tyX8
  | 9 => tyX9
  | 10 => tyX10
  | 11 => tyJ2
  | 12 => tyJ15
  | 13 => tyJ19
  | _ => tyX3
def wt_aty (t : Nat) : FieldType := match t with
  | 0 => .int
  | 1 => .byte
  | 2 => .boolean
  | 3 => .long
  | 4 => .array .int
  | 5 => .object "java/lang/Object"
  | _ => .object "java/lang/Integer"
def wt_tys (G : wt_G) : List (ClassId × FieldType) := [(G.2.2.1 0, .int), (G.2.2.1 1, .byte), (G.2.2.1 2, .boolean), (G.2.2.1 3, .long), (G.2.2.1 4, .array .int), (G.2.2.1 5, .object "java/lang/Object"), (G.2.2.1 6, .object "java/lang/Integer")]
/-- the value of a place by its type -/
def wt_fv (ty : FieldType) (i : Int32) (r : Option Nat) (j : Int64) : Value := match ty with
  | .long => .long j
  | .object _ => va_rf r
  | .array _ => va_rf r
  | _ => .int i
def wt_hold (G : wt_G) (x : wt_kd) (a : Nat) (I : Nat → Int32) (R : Nat → Option Nat) (J : Nat → Int64) (H : Heap) : Prop := match x with
  | .inl ci => ∃ q : vw_C, wt_cl[ci]? = some q ∧ t_OB a (G.2.1.1 ci) q.2.2 (G.2.1.2 ci) H (fun k => wt_fv (wt_ft ci k) (I k) (R k) (J k))
  | .inr tn => tn.1 < 7 ∧ H[a]? = some (arrV (G.2.2.1 tn.1) tn.2 (fun k => wt_fv (wt_aty tn.1) (I k) (R k) (J k)))
def wt_Rp (G : wt_G) (K : wt_Kt) (I : wt_It) (R : wt_Rt) (J : wt_Jt) (H : Heap) : Prop := ∀ (a : Nat) (x : wt_kd), K a = some x → wt_hold G x a (I a) (R a) (J a) H
/-- words that no list carries, and that stay as the tables warm -/
def wt_wm (w : Cond) : Bool := match w with
  | .fieldLinkNest .. => true
  | .methodLinkNest .. => true
  | .castable .. => true
  | .declares .. => true
  | .publicMethod .. => true
  | .unhidden .. => true
  | _ => false
/-- what holds of the tables and of old cells all through the run -/
def wt_Sx (G : wt_G) (U : State) (H : Heap) : Prop :=
  va_K G.2.1 wt_cl (wt_tys G) U ∧ (∀ w ∈ lw_tbl, wt_wm w = true → va_Nw w U) ∧ G.2.2.2.2 U H ∧
  (∀ (u U : State) (H H1 : Heap), u.WarmedH U.vm → (∀ a : Nat, a < H.size → a < G.1 → H1[a]? = H[a]?) → G.2.2.2.2 u H → G.2.2.2.2 U H1)
theorem wt_wm_warm {w : Cond} {s U : State} (h : wt_wm w = true) (hW : s.WarmedH U.vm) (hZ : va_Nw w s) : va_Nw w U := by
  have tr : ∀ {c : Cond}, c.onTables = true → c.before #[] (s.setVm U.vm) = true → c.before #[] U = true := by
    intro c hc h
    have e := Cond.onTables_vm (A := #[]) (A' := #[]) (U := s) (U' := U) U.vm c hc
    have hU : U.setVm U.vm = U := rfl
    rw [hU] at e
    rw [← e]
    exact h
  cases w <;> simp only [wt_wm, Bool.false_eq_true] at h
  case fieldLinkNest => exact va_Nw.warmF hW hZ
  case methodLinkNest => exact va_Nw.warmM hW hZ
  case castable => exact va_Nw.warmC hW hZ
  case declares => exact va_Nw.warmD hW hZ
  case publicMethod => exact tr rfl (by rw [Cond.publicMethod_setVm hW.alike]; exact hZ)
  case unhidden => exact tr rfl (by rw [Cond.unhidden_setVm hW.alike]; exact hZ)
theorem wt_Sx.moved {G : wt_G} {u U : State} {H H1 : Heap} (hW : u.WarmedH U.vm) (hq : ∀ a : Nat, a < H.size → a < G.1 → H1[a]? = H[a]?) (h : wt_Sx G u H) : wt_Sx G U H1 := by
  obtain ⟨h1, h2, h3, h4⟩ := h
  exact ⟨va_K.moved hW.alike h1, fun w hw hm => wt_wm_warm hm hW (h2 w hw hm), h4 u U H H1 hW hq h3, h4⟩
theorem wt_Rp.lt {G : wt_G} {K : wt_Kt} {I : wt_It} {R : wt_Rt} {J : wt_Jt} {H : Heap} (h : wt_Rp G K I R J H) {a : Nat} {x : wt_kd} (ha : K a = some x) : a < H.size := by
  have h1 := h a x ha
  cases x with
  | inl ci =>
    obtain ⟨q, -, cell, h2, -⟩ := h1
    exact (Array.getElem?_eq_some_iff.mp h2).1
  | inr tn => exact (Array.getElem?_eq_some_iff.mp h1.2).1
theorem wt_hold.kept {G : wt_G} {x : wt_kd} {a : Nat} {I : Nat → Int32} {R : Nat → Option Nat} {J : Nat → Int64} {H H1 : Heap} (h : wt_hold G x a I R J H) (hq : H1[a]? = H[a]?) : wt_hold G x a I R J H1 := by
  cases x with
  | inl ci =>
    obtain ⟨q, h1, h2⟩ := h
    exact ⟨q, h1, h2.kept hq⟩
  | inr tn => exact ⟨h.1, hq.trans h.2⟩
def wt_up2 {α : Type} (f : Nat → Nat → α) (a k : Nat) (v : α) : Nat → Nat → α := fun x y => if x = a ∧ y = k then v else f x y
theorem wt_up2_self {α : Type} (f : Nat → Nat → α) (a k : Nat) (v : α) : wt_up2 f a k v a k = v := if_pos ⟨rfl, rfl⟩
theorem wt_up2_ne {α : Type} {f : Nat → Nat → α} {a k : Nat} {v : α} {x y : Nat} (h : ¬ (x = a ∧ y = k)) : wt_up2 f a k v x y = f x y := if_neg h
theorem wt_up2_row {α : Type} {f : Nat → Nat → α} {a k : Nat} {v : α} {x : Nat} (h : x ≠ a) : wt_up2 f a k v x = f x := funext fun y => if_neg (fun q => h q.1)
/-- locals, by place: none where nothing is known -/
def wt_lv (ls : Array Slot) (L : List (Option Value)) : Prop := ls.size = L.length ∧ lv_wf ls ∧ ∀ (i : Nat) (v : Value), L[i]? = some (some v) → ls[i]? = some (.val v)
def wt_as : Nat → List (Option Value) → List (Nat × Value)
  | _, [] => []
  | i, none :: l => wt_as (i + 1) l
  | i, some v :: l => (i, v) :: wt_as (i + 1) l
theorem wt_as_mem : ∀ (L : List (Option Value)) (b i : Nat) (v : Value), (i, v) ∈ wt_as b L ↔ ∃ j, i = b + j ∧ L[j]? = some (some v)
  | [], b, i, v => by simp [wt_as]
  | none :: l, b, i, v => by
    rw [wt_as, wt_as_mem l (b + 1) i v]
    constructor
    · rintro ⟨j, h1, h2⟩
      exact ⟨j + 1, by omega, by simpa using h2⟩
    · rintro ⟨j, h1, h2⟩
      cases j with
      | zero => simp at h2
      | succ j => exact ⟨j, by omega, by simpa using h2⟩
  | some w :: l, b, i, v => by
    rw [wt_as, List.mem_cons, wt_as_mem l (b + 1) i v]
    constructor
    · rintro (h | ⟨j, h1, h2⟩)
      · cases h
        exact ⟨0, by simp, by simp⟩
      · exact ⟨j + 1, by omega, by simpa using h2⟩
    · rintro ⟨j, h1, h2⟩
      cases j with
      | zero => simp at h2; left; rw [h2, h1]; simp
      | succ j => exact Or.inr ⟨j, by omega, by simpa using h2⟩
theorem wt_lv.has {ls : Array Slot} {L : List (Option Value)} (h : wt_lv ls L) : lv_has ls L.length (wt_as 0 L) := by
  refine ⟨h.1, h.2.1, fun q hq => ?_⟩
  obtain ⟨i, v⟩ := q
  obtain ⟨j, h1, h2⟩ := (wt_as_mem L 0 i v).mp hq
  have e : i = j := by omega
  subst e
  exact h.2.2 _ v h2
/-- no long ends at the place -/
def wt_nl (L : List (Option Value)) (i : Nat) : Bool := match i with
  | 0 => true
  | j + 1 => match L[j]? with
    | some (some v) => v.category != 2
    | _ => true
theorem wt_lv.st1 {ls' : Array Slot} {L : List (Option Value)} {i : Nat} {v : Value} (hn : wt_nl L i = true) (hi : i < L.length) (h : lv_has ls' L.length ((i, v) :: (wt_as 0 L).filter (fun q => !(q.1 == i) && !(q.1 + 1 == i && q.2.category == 2)))) : wt_lv ls' (L.set i (some v)) := by
  refine ⟨by rw [List.length_set]; exact h.1, h.2.1, fun j w hw => ?_⟩
  by_cases hj : j = i
  · subst hj
    rw [List.getElem?_set_self hi] at hw
    cases hw
    exact h.2.2 _ List.mem_cons_self
  · rw [List.getElem?_set_ne (Ne.symm hj)] at hw
    refine h.2.2 (j, w) (List.mem_cons_of_mem _ (List.mem_filter.mpr ⟨(wt_as_mem L 0 j w).mpr ⟨j, by omega, hw⟩, ?_⟩))
    have h1 : (j == i) = false := by simpa using hj
    simp only [h1, Bool.not_false, Bool.true_and, Bool.not_eq_true', Bool.and_eq_false_imp, beq_iff_eq]
    intro e
    subst e
    simp only [wt_nl, hw, bne_iff_ne] at hn
    simpa using hn
theorem wt_lv.st2 {ls' : Array Slot} {L : List (Option Value)} {i : Nat} {v : Value} (hn : wt_nl L i = true) (hi : i + 1 < L.length) (h : lv_has ls' L.length ((i, v) :: (wt_as 0 L).filter (fun q => !(q.1 == i) && (!(q.1 == i + 1) && !(q.1 + 1 == i && q.2.category == 2))))) : wt_lv ls' ((L.set i (some v)).set (i + 1) none) := by
  refine ⟨by rw [List.length_set, List.length_set]; exact h.1, h.2.1, fun j w hw => ?_⟩
  by_cases hj1 : j = i + 1
  · subst hj1
    rw [List.getElem?_set_self (by rw [List.length_set]; exact hi)] at hw
    cases hw
  rw [List.getElem?_set_ne (Ne.symm hj1)] at hw
  by_cases hj : j = i
  · subst hj
    rw [List.getElem?_set_self (by omega)] at hw
    cases hw
    exact h.2.2 _ List.mem_cons_self
  · rw [List.getElem?_set_ne (Ne.symm hj)] at hw
    refine h.2.2 (j, w) (List.mem_cons_of_mem _ (List.mem_filter.mpr ⟨(wt_as_mem L 0 j w).mpr ⟨j, by omega, hw⟩, ?_⟩))
    have h1 : (j == i) = false := by simpa using hj
    have h2 : (j == i + 1) = false := by simpa using hj1
    simp only [h1, h2, Bool.not_false, Bool.true_and, Bool.not_eq_true', Bool.and_eq_false_imp, beq_iff_eq]
    intro e
    subst e
    simp only [wt_nl, hw, bne_iff_ne] at hn
    simpa using hn
def wt_sub : List (Option Value) → List (Option Value) → Prop
  | [], [] => True
  | none :: l', _ :: l => wt_sub l' l
  | some a :: l', b :: l => b = some a ∧ wt_sub l' l
  | _, _ => False
theorem wt_sub_len : ∀ (L' L : List (Option Value)), wt_sub L' L → L'.length = L.length
  | [], [], _ => rfl
  | none :: l', _ :: l, h => by simp only [List.length_cons]; rw [wt_sub_len l' l h]
  | some a :: l', b :: l, h => by simp only [List.length_cons]; rw [wt_sub_len l' l h.2]
  | [], _ :: _, h => h.elim
  | none :: _, [], h => h.elim
  | some _ :: _, [], h => h.elim
theorem wt_sub_get : ∀ (L' L : List (Option Value)), wt_sub L' L → ∀ (i : Nat) (v : Value), L'[i]? = some (some v) → L[i]? = some (some v)
  | [], [], _, i, v, h => by simp at h
  | none :: l', b :: l, h, i, v, hv => by
    cases i with
    | zero => simp at hv
    | succ i => simpa using wt_sub_get l' l h i v (by simpa using hv)
  | some a :: l', b :: l, h, i, v, hv => by
    cases i with
    | zero => simp at hv ⊢; rw [h.1, hv]
    | succ i => simpa using wt_sub_get l' l h.2 i v (by simpa using hv)
  | [], _ :: _, h, _, _, _ => h.elim
  | none :: _, [], h, _, _, _ => h.elim
  | some _ :: _, [], h, _, _, _ => h.elim
theorem wt_lv.sub {ls : Array Slot} {L L' : List (Option Value)} (h : wt_lv ls L) (hs : wt_sub L' L) : wt_lv ls L' := ⟨by rw [wt_sub_len _ _ hs]; exact h.1, h.2.1, fun i v hv => h.2.2 i v (wt_sub_get _ _ hs i v hv)⟩
/-- the judgement: from the frame at pc, with the locals, the stack and a heap of the kind Z, kc cells and ks slots still to be had -/
def wt_V (G : wt_G) (X : wt_X) (pc : Nat) (L : List (Option Value)) (st : List Value) (Z : Heap → Prop) (kc ks : Nat) : Prop :=
  match X with
  | (p, l, e, Rm, s, m, args, below, meth, c, Q) => ∀ (H : Heap) (locs : List Loc) (cells slots : Nat) (ls : Array Slot), Z H → va_S (fun q => G.1 ≤ q) s.heap H locs → cells + kc ≤ Rm.cells → slots + ks ≤ Rm.slots → wt_lv ls L → W p l e Rm s m args below meth c H locs cells slots Q (F0 m pc ls st)
/-- what is known of the method that is walked: its name, its bytes, its locals, how deep it may call -/
def wt_Cx (l : Launch) (G : wt_G) (X : wt_X) (y : MethodName) (cc : ByteArray) (nL fr : Nat) : Prop :=
  match X with
  | (p, l', _, Rm, s, m, args, _, meth, c, _) => l' = l ∧ p.tables.exec = Jvm.exec ∧ c.code = cc ∧ s.vm.findClass y.cls = some m.cls ∧ (∀ w ∈ lw_all, w.before args s = true) ∧ c.maxLocals = nL ∧ meth.locks = false ∧ meth.name = y.name ∧ fr ≤ Rm.frames ∧ 64 * fr ≤ Rm.locals ∧ G.1 ≤ s.heap.size ∧ wt_Sx G s s.heap
section WTV
variable {l : Launch} {G : wt_G} {X : wt_X} {y : MethodName} {cc : ByteArray} {nL fr pc : Nat} {L : List (Option Value)} {st : List Value} {Z : Heap → Prop} {kc ks : Nat}
theorem wt_sub_k {L' : List (Option Value)} (hs : wt_sub L' L) (k : wt_V G X pc L' st Z kc ks) : wt_V G X pc L st Z kc ks := by
  obtain ⟨p, l, e, Rm, s, m, args, below, meth, c, Q⟩ := X
  exact fun H locs cells slots ls hZ hS hc hsl hl => k H locs cells slots ls hZ hS hc hsl (hl.sub hs)
theorem wt_topi {x z : Int32} (h : x = z) (k : wt_V G X pc L (.int z :: st) Z kc ks) : wt_V G X pc L (.int x :: st) Z kc ks := h ▸ k
theorem wt_drop {L' : List (Option Value)} (k : wt_V G X pc L' st Z kc ks) (hs : wt_sub L' L) : wt_V G X pc L st Z kc ks := wt_sub_k hs k
theorem wt_less {kc' ks' : Nat} (h1 : kc' ≤ kc) (h2 : ks' ≤ ks) (k : wt_V G X pc L st Z kc' ks') : wt_V G X pc L st Z kc ks := by
  obtain ⟨p, l, e, Rm, s, m, args, below, meth, c, Q⟩ := X
  exact fun H locs cells slots ls hZ hS hc hsl hl => k H locs cells slots ls hZ hS (by omega) (by omega) hl
/-- another way to say what heap it is -/
theorem wt_to {Z' : Heap → Prop} (h : ∀ H, Z H → Z' H) (k : wt_V G X pc L st Z' kc ks) : wt_V G X pc L st Z kc ks := by
  obtain ⟨p, l, e, Rm, s, m, args, below, meth, c, Q⟩ := X
  exact fun H locs cells slots ls hZ hS hc hsl hl => k H locs cells slots ls (h H hZ) hS hc hsl hl
theorem wt_ex {S : Type} {Z' : S → Heap → Prop} (h : ∀ H, Z H → ∃ u, Z' u H) (k : ∀ u, wt_V G X pc L st (Z' u) kc ks) : wt_V G X pc L st Z kc ks := by
  obtain ⟨p, l, e, Rm, s, m, args, below, meth, c, Q⟩ := X
  intro H locs cells slots ls hZ hS hc hsl hl
  obtain ⟨u, hu⟩ := h H hZ
  exact k u H locs cells slots ls hu hS hc hsl hl
end WTV
theorem wt_has_sub {ls : Array Slot} {nL : Nat} {l l' : List (Nat × Value)} (h : lv_has ls nL l) (hs : ∀ q ∈ l', q ∈ l) : lv_has ls nL l' := ⟨h.1, h.2.1, fun q hq => h.2.2 q (hs q hq)⟩
