/-! CLASS ENGINE: new cells in a bank -/
set_option maxRecDepth 100000
/-- what a run carries of arrays over arrays and objects -/
def cAO (G : wt_G) : Prop := (∀ s : State, wt_Sx G s s.heap → (Cond.arrayOver (.array .int)).before #[] s = true) ∧ ∀ s : State, wt_Sx G s s.heap → (Cond.arrayOver (.object "java/lang/Object")).before #[] s = true
theorem wt_outer (c : ClassId) (N h0 : Nat) : ∀ i, Jvm.Free.Multi.outerC c N h0 i = arrV c N (fun j => if j < i then .ref (h0 + 1 + j) else .null)
  | 0 => by
    show ({ cls := c, slots := Array.replicate N .null, vm := .none } : Cell) = _
    rw [arrV_new]
    congr 1
  | i + 1 => by
    rw [show Jvm.Free.Multi.outerC c N h0 (i + 1) = (Jvm.Free.Multi.outerC c N h0 i).setSlot i (.ref (h0 + 1 + i)) from rfl, wt_outer c N h0 i, arrV_store]
    congr 1
    funext j
    unfold updV
    dsimp only
    by_cases h : j = i
    · rw [if_pos h, if_pos (by omega), h]
    · rw [if_neg h]
      by_cases h2 : j < i
      · rw [if_pos h2, if_pos (by omega)]
      · rw [if_neg h2, if_neg (by omega)]
/-- n new rows of k ints behind their array at a -/
def cM (B : cB) (a n k : Nat) : cB := ((fun b => if b = a then some (.inr (4, n)) else if a < b ∧ b < a + 1 + n then some (.inr (0, k)) else B.1 b), (fun b => if a ≤ b ∧ b < a + 1 + n then (fun _ => 0) else B.2.1 b), (fun b => if b = a then (fun j => if j < n then some (a + 1 + j) else none) else if a < b ∧ b < a + 1 + n then (fun _ => none) else B.2.2.1 b), (fun b => if a ≤ b ∧ b < a + 1 + n then (fun _ => 0) else B.2.2.2 b))
section CM
variable {l : Launch} {G : wt_G} {X : wt_X} {y : MethodName} {cc : ByteArray} {nL fr pc : Nat} {L : List (Option Value)} {st : List Value} {B : cB} {kc ks : Nat}
theorem cM_hold {H H1 : Heap} {n k : Nat} (hZ : cz G B H) (h0 : H1[H.size]? = some (arrV (G.2.2.1 4) n (fun j => if j < n then .ref (H.size + 1 + j) else .null))) (h1 : ∀ j, j < n → H1[H.size + 1 + j]? = some (arrV (G.2.2.1 0) k (fun _ => .int 0))) (o : ∀ q : Nat, q < H.size → H1[q]? = H[q]?) : cz G (cM B H.size n k) H1 := by
  intro b z hb
  by_cases e : b = H.size
  · subst e
    have hb' : some (.inr (4, n)) = some z := by
      have : (cM B H.size n k).1 H.size = some (.inr (4, n)) := if_pos rfl
      rw [← this]; exact hb
    cases hb'
    refine ⟨by show 4 < 7; omega, h0.trans (congrArg some (congrArg (arrV _ n) (funext fun j => ?_)))⟩
    have e2 : (cM B H.size n k).2.2.1 H.size j = if j < n then some (H.size + 1 + j) else none := congrFun (if_pos rfl) j
    show _ = va_rf ((cM B H.size n k).2.2.1 H.size j)
    rw [e2]
    by_cases h : j < n
    · rw [if_pos h, if_pos h]; rfl
    · rw [if_neg h, if_neg h]; rfl
  · by_cases e2 : H.size < b ∧ b < H.size + 1 + n
    · have hb' : some (.inr (0, k)) = some z := by
        have : (cM B H.size n k).1 b = some (.inr (0, k)) := (if_neg e).trans (if_pos e2)
        rw [← this]; exact hb
      cases hb'
      have h2 := h1 (b - (H.size + 1)) (by omega)
      rw [show H.size + 1 + (b - (H.size + 1)) = b by omega] at h2
      refine ⟨by show 0 < 7; omega, h2.trans (congrArg some (congrArg (arrV _ k) (funext fun j => ?_)))⟩
      have e3 : (cM B H.size n k).2.1 b j = 0 := congrFun (if_pos ⟨by omega, e2.2⟩) j
      show _ = Value.int ((cM B H.size n k).2.1 b j)
      rw [e3]
    · have hb' : B.1 b = some z := by
        have : (cM B H.size n k).1 b = B.1 b := (if_neg e).trans (if_neg e2)
        rw [← this]; exact hb
      have hlt := hZ.lt hb'
      have e3 : (cM B H.size n k).2.1 b = B.2.1 b := if_neg (by omega)
      have e4 : (cM B H.size n k).2.2.1 b = B.2.2.1 b := (if_neg e).trans (if_neg e2)
      have e5 : (cM B H.size n k).2.2.2 b = B.2.2.2 b := if_neg (by omega)
      rw [e3, e4, e5]
      exact (hZ b z hb').kept (o b hlt)
theorem cv_multi {idx : Nat} (n k : Nat) (hc : wt_Cx l G X y cc nL fr) (hAO : cAO G) (d : decode cc pc = .ok (.multianewarray idx 2, 4)) (q1 : Cond.classLink y.cls idx "[[I" ∈ lw_all) (q2 : Cond.arrayClass .int ∈ lw_all) (hn : n < 2 ^ 20) (hk : k < 2 ^ 20) (h1 : 1 + n ≤ kc) (h2 : n + n * k ≤ ks)
    (kk : ∀ a, G.1 ≤ a → (∀ b, a ≤ b → B.1 b = none) → wt_V G X (pc + 4) L (.ref a :: st) (cz G (cM B a n k)) (kc - (1 + n)) (ks - (n + n * k))) : wt_V G X pc L (.int (nI k) :: .int (nI n) :: st) (cz G B) kc ks := by
  obtain ⟨p, l', e, Rm, s, m, args, below, meth, c, Q⟩ := X
  obtain ⟨rfl, hx, hbb, hown, hts, hml, hlk, hnm, hf1, hf2, hn0, hSx⟩ := hc
  intro H locs cells slots ls hZ hS hcl hsl hl T hT XX
  have en : (nI n).toNatClampNeg = n := nI_clamp (by omega)
  have ek : (nI k).toNatClampNeg = k := nI_clamp (by omega)
  obtain ⟨vm₁, cA, comp, hW1, hfA, hfC, -, -, X1, step⟩ := XX.multianewarray2F hx (own := y.cls) (index := idx) (ty := .int) hown (hts _ q1) (hAO.1 s hSx) (hts _ q2) (g := F0 m pc ls (.int (nI k) :: .int (nI n) :: st)) rfl (by rw [hbb]; exact d) (n := nI n) (k := nI k) (rest := st) rfl (nI_pos (by omega)) (nI_pos (by omega)) (by rw [en]; omega) (by rw [ek]; show k * 4 ≤ _; omega) (by rw [ek]; omega) rfl rfl (by rw [en]; omega) (by rw [en, ek]; omega)
  rw [en, ek] at X1 step
  have hA : cA = G.2.2.1 4 := by
    have h4 : va_RA s (G.2.2.1 4) (.array .int) := (hSx.1.2 4 _ rfl).2
    exact Option.some.inj (hfA.symm.trans h4)
  have hC : comp = G.2.2.1 0 := by
    have h4 : va_RA s (G.2.2.1 0) .int := (hSx.1.2 0 _ rfl).2
    exact Option.some.inj (hfC.symm.trans h4)
  subst hA hC
  obtain ⟨f1, f2, -, -⟩ := Jvm.Free.Multi.fill_facts (T.setVm vm₁) (G.2.2.1 4) (G.2.2.1 0) n k (defaultValue .int) n
  have hTz : (T.setVm vm₁).heap.size = H.size := by show T.heap.size = _; rw [hT]
  rw [hTz] at f1 f2
  have hin : ∀ j, j < n → (Jvm.Free.Multi.fill (T.setVm vm₁) (G.2.2.1 4) (G.2.2.1 0) n k (defaultValue .int) n).heap[H.size + 1 + j]? = some (arrV (G.2.2.1 0) k (fun _ => .int 0)) := fun j hj => by
    have := Jvm.Free.Multi.fill_inner (T.setVm vm₁) (G.2.2.1 4) (G.2.2.1 0) n k (defaultValue .int) n j hj
    rw [hTz] at this
    rw [this]
    exact congrArg some (arrV_new _ _ _)
  have hold : ∀ q : Nat, q < H.size → (Jvm.Free.Multi.fill (T.setVm vm₁) (G.2.2.1 4) (G.2.2.1 0) n k (defaultValue .int) n).heap[q]? = H[q]? := fun q hq => by
    have := Jvm.Free.Multi.fill_old (T.setVm vm₁) (G.2.2.1 4) (G.2.2.1 0) n k (defaultValue .int) (a := q) (by rw [hTz]; exact hq) n
    rw [this]
    show T.heap[q]? = _
    rw [hT]
  have hZ1 := cM_hold (n := n) (k := k) hZ (by rw [f2, wt_outer]) hin hold
  have hS1 : va_S (fun q => G.1 ≤ q) s.heap (Jvm.Free.Multi.fill (T.setVm vm₁) (G.2.2.1 4) (G.2.2.1 0) n k (defaultValue .int) n).heap locs := ⟨Nat.le_trans hS.1 (by omega), fun x h1 h2 => (hold x (Nat.lt_of_lt_of_le h1 hS.1)).trans (hS.2.1 x h1 h2), hS.2.2⟩
  obtain ⟨t, a1, b1⟩ := kk H.size (Nat.le_trans hn0 hS.1) (cz_fresh hZ) _ locs (cells + 1 + n) (slots + n + n * k) ls hZ1 hS1 (by omega) (by omega) hl _ rfl X1
  rw [hT] at step
  exact ⟨t, step t a1, b1⟩
end CM
/-- a bank whose places are all known -/
def bF (G : wt_G) (S : bS) (N : Nat) : Prop := bE G S N ∧ ∀ j, j < N → S.1 (S.2.1 j) ≠ none
theorem bF.ne {G : wt_G} {S : bS} {N a j : Nat} (h : bF G S N) (hf : ∀ b, a ≤ b → S.1 b = none) (hj : j < N) : S.2.1 j < a := by
  rcases Nat.lt_or_ge (S.2.1 j) a with z | z
  · exact z
  · exact absurd (hf _ z) (h.2 j hj)
def bRf (S : bS) (a f : Nat) (v : Option Nat) : bS := (S.1, S.2.1, S.2.2.1, S.2.2.2.1, wt_up2 S.2.2.2.2.1 a f v, S.2.2.2.2.2)
theorem bRf_F {G : wt_G} {S : bS} {N a f : Nat} {v : Option Nat} (h : bF G S N) : bF G (bRf S a f v) N := h
theorem bN_F {G : wt_G} {S : bS} {N a : Nat} {x : wt_kd} (h : bF G S N) (ha : G.1 ≤ a) (hf : ∀ b, a ≤ b → S.1 b = none) : bF G (bN S N a x) (N + 1) := by
  refine ⟨bN_E h.1 ha (fun j hj z => absurd (h.ne hf hj) (by omega)), fun j hj => ?_⟩
  by_cases e : j = N
  · rw [e, bN_new]
    show (if a = a then some x else S.1 a) ≠ none
    rw [if_pos rfl]
    exact fun z => by cases z
  · rw [bN_old (by omega)]
    have := h.ne hf (j := j) (by omega)
    show (if S.2.1 j = a then some x else S.1 (S.2.1 j)) ≠ none
    rw [if_neg (by omega)]
    exact h.2 j (by omega)
def bM (S : bS) (N a n k : Nat) : bS := ((cM (bB S d0) a n k).1, (fun j => if N ≤ j then a + (j - N) else S.2.1 j), (fun b => if a ≤ b ∧ b < a + 1 + n then some (N + (b - a)) else S.2.2.1 b), S.2.2.2.1, (cM (bB S d0) a n k).2.2.1, (cM (bB S d0) a n k).2.2.2)
def bMD (D : wt_It) (N n : Nat) : wt_It := fun j => if N ≤ j ∧ j < N + 1 + n then (fun _ => 0) else D j
theorem bM_B {G : wt_G} {S : bS} {N a n k : Nat} {D : wt_It} (h : bF G S N) : cM (bB S D) a n k = bB (bM S N a n k) (bMD D N n) := by
  have e : (cM (bB S D) a n k).2.1 = ov (bM S N a n k).2.2.1 (bMD D N n) S.2.2.2.1 := by
    funext b
    show (if a ≤ b ∧ b < a + 1 + n then (fun _ => 0) else ov S.2.2.1 D S.2.2.2.1 b) = ov (bM S N a n k).2.2.1 (bMD D N n) S.2.2.2.1 b
    unfold ov
    by_cases eb : a ≤ b ∧ b < a + 1 + n
    · rw [if_pos eb, show (bM S N a n k).2.2.1 b = some (N + (b - a)) from if_pos eb]
      exact (if_pos ⟨by omega, by omega⟩).symm
    · rw [if_neg eb, show (bM S N a n k).2.2.1 b = S.2.2.1 b from if_neg eb]
      cases hi : S.2.2.1 b with
      | none => rfl
      | some i =>
        have := (h.1.2.2 b i hi).1
        exact (if_neg (by omega)).symm
  show ((cM (bB S D) a n k).1, (cM (bB S D) a n k).2.1, (cM (bB S D) a n k).2.2.1, (cM (bB S D) a n k).2.2.2) = _
  rw [e]
  rfl
theorem bM_F {G : wt_G} {S : bS} {N a n k : Nat} (h : bF G S N) (ha : G.1 ≤ a) (hf : ∀ b, a ≤ b → S.1 b = none) : bF G (bM S N a n k) (N + 1 + n) := by
  refine ⟨⟨fun b y hb ho => ?_, fun j hj => ?_, fun b j hb => ?_⟩, fun j hj => ?_⟩
  · by_cases e : b = a
    · rw [e]; exact ha
    · by_cases e2 : a < b ∧ b < a + 1 + n
      · omega
      · have : (bM S N a n k).1 b = S.1 b := (if_neg e).trans (if_neg e2)
        rw [this] at hb
        exact h.1.1 b y hb ho
  · by_cases e : N ≤ j
    · rw [show (bM S N a n k).2.1 j = a + (j - N) from if_pos e]
      refine (if_pos (show a ≤ a + (j - N) ∧ a + (j - N) < a + 1 + n by omega)).trans (congrArg some ?_)
      omega
    · rw [show (bM S N a n k).2.1 j = S.2.1 j from if_neg e]
      have := h.ne hf (j := j) (by omega)
      exact (if_neg (by omega)).trans (h.1.2.1 j (by omega))
  · by_cases e : a ≤ b ∧ b < a + 1 + n
    · rw [show (bM S N a n k).2.2.1 b = some (N + (b - a)) from if_pos e] at hb
      have hj := Option.some.inj hb
      subst hj
      refine ⟨by omega, ?_⟩
      exact ((if_pos (show N ≤ N + (b - a) by omega)).trans (by omega)).symm
    · rw [show (bM S N a n k).2.2.1 b = S.2.2.1 b from if_neg e] at hb
      have := h.1.2.2 b j hb
      refine ⟨by omega, ?_⟩
      exact this.2.trans (if_neg (show ¬ N ≤ j by omega)).symm
  · by_cases e : N ≤ j
    · rw [show (bM S N a n k).2.1 j = a + (j - N) from if_pos e]
      by_cases e2 : a + (j - N) = a
      · exact fun z => by cases (if_pos e2).symm.trans z
      · exact fun z => by cases ((if_neg e2).trans (if_pos (show a < a + (j - N) ∧ a + (j - N) < a + 1 + n by omega))).symm.trans z
    · rw [show (bM S N a n k).2.1 j = S.2.1 j from if_neg e]
      have := h.ne hf (j := j) (by omega)
      have e3 : (bM S N a n k).1 (S.2.1 j) = S.1 (S.2.1 j) := (if_neg (by omega)).trans (if_neg (by omega))
      rw [e3]
      exact h.2 j (by omega)
/-- what is known of the places: kinds, references -/
def bT (S : bS) (N : Nat) (kd : Nat → wt_kd) (ρ : Nat → Nat → Option Nat) : Prop := ∀ j, j < N → S.1 (S.2.1 j) = some (kd j) ∧ ∀ f, S.2.2.2.2.1 (S.2.1 j) f = ρ j f
theorem bT.n {G : wt_G} {S : bS} {N a : Nat} {x : wt_kd} {kd : Nat → wt_kd} {ρ : Nat → Nat → Option Nat} (h : bT S N kd ρ) (hF : bF G S N) (hf : ∀ b, a ≤ b → S.1 b = none) : bT (bN S N a x) (N + 1) (fun j => if j = N then x else kd j) (fun j => if j = N then (fun _ => none) else ρ j) := by
  intro j hj
  by_cases e : j = N
  · subst e
    rw [bN_new]
    dsimp only
    rw [if_pos rfl]
    exact ⟨if_pos rfl, fun f => (if_pos rfl : wt_rw S.2.2.2.2.1 a none a f = none).trans (by first | rfl | rw [if_pos rfl])⟩
  · rw [bN_old (by omega)]
    dsimp only
    rw [if_neg e]
    have := hF.ne hf (j := j) (by omega)
    obtain ⟨h1, h2⟩ := h j (by omega)
    exact ⟨(if_neg (by omega)).trans h1, fun f => ((if_neg (by omega) : wt_rw S.2.2.2.2.1 a none (S.2.1 j) f = _).trans (h2 f)).trans (by rw [if_neg e])⟩
theorem bT.r {G : wt_G} {S : bS} {N i g : Nat} {v : Option Nat} {kd : Nat → wt_kd} {ρ : Nat → Nat → Option Nat} (h : bT S N kd ρ) (hF : bF G S N) (hi : i < N) : bT (bRf S (S.2.1 i) g v) N kd (wt_up2 ρ i g v) := by
  intro j hj
  obtain ⟨h1, h2⟩ := h j hj
  refine ⟨h1, fun f => ?_⟩
  show wt_up2 S.2.2.2.2.1 (S.2.1 i) g v (S.2.1 j) f = _
  by_cases e : j = i ∧ f = g
  · rw [e.1, e.2, wt_up2_self, wt_up2_self]
  · rw [wt_up2_ne e, wt_up2_ne (fun z => e ⟨?_, z.2⟩)]
    · exact h2 f
    · have e1 := hF.1.2.1 j hj
      rw [z.1, hF.1.2.1 i hi] at e1
      exact (Option.some.inj e1).symm
theorem bT.m {G : wt_G} {S : bS} {N a n k : Nat} {kd : Nat → wt_kd} {ρ : Nat → Nat → Option Nat} (h : bT S N kd ρ) (hF : bF G S N) (hf : ∀ b, a ≤ b → S.1 b = none) : bT (bM S N a n k) (N + 1 + n) (fun j => if j = N then .inr (4, n) else if N < j then .inr (0, k) else kd j) (fun j => if j = N then (fun i => if i < n then some (a + 1 + i) else none) else if N < j then (fun _ => none) else ρ j) := by
  intro j hj
  by_cases e : j = N
  · subst e
    rw [show (bM S j a n k).2.1 j = a from (if_pos (Nat.le_refl _)).trans (by omega)]
    refine ⟨(if_pos rfl : (bM S j a n k).1 a = _).trans (by dsimp only; rw [if_pos rfl]), fun f => ?_⟩
    dsimp only
    rw [if_pos rfl]
    exact congrFun (if_pos rfl : (bM S j a n k).2.2.2.2.1 a = _) f
  · by_cases e2 : N < j
    · rw [show (bM S N a n k).2.1 j = a + (j - N) from if_pos (by omega)]
      refine ⟨((if_neg (by omega) : (bM S N a n k).1 (a + (j - N)) = _).trans (if_pos ⟨by omega, by omega⟩)).trans (by dsimp only; rw [if_neg e, if_pos e2]), fun f => ?_⟩
      dsimp only
      rw [if_neg e, if_pos e2]
      exact congrFun ((if_neg (by omega) : (bM S N a n k).2.2.2.2.1 (a + (j - N)) = _).trans (if_pos ⟨by omega, by omega⟩)) f
    · rw [show (bM S N a n k).2.1 j = S.2.1 j from if_neg (by omega)]
      have := hF.ne hf (j := j) (by omega)
      obtain ⟨h1, h2⟩ := h j (by omega)
      refine ⟨((if_neg (by omega) : (bM S N a n k).1 (S.2.1 j) = _).trans (if_neg (by omega))).trans (h1.trans (by dsimp only; rw [if_neg e, if_neg e2])), fun f => ?_⟩
      dsimp only
      rw [if_neg e, if_neg e2]
      exact (congrFun ((if_neg (by omega) : (bM S N a n k).2.2.2.2.1 (S.2.1 j) = _).trans (if_neg (by omega))) f).trans (h2 f)
/-- what a bank that grew over B leaves of B, but the ints of v -/
def bG (B : cB) (S : bS) (v : Nat) : Prop := ∀ a, B.1 a ≠ none → S.1 a = B.1 a ∧ S.2.2.2.2.1 a = B.2.2.1 a ∧ S.2.2.2.2.2 a = B.2.2.2 a ∧ (a ≠ v → S.2.2.1 a = none ∧ S.2.2.2.1 a = B.2.1 a)
theorem bG.ints {B : cB} {S : bS} {v a : Nat} {D : wt_It} (h : bG B S v) (ha : B.1 a ≠ none) (hv : a ≠ v) : (bB S D).2.1 a = B.2.1 a := by
  obtain ⟨-, -, -, h4⟩ := h a ha
  obtain ⟨h5, h6⟩ := h4 hv
  rw [ov_out h5, h6]
theorem bG.n {B : cB} {S : bS} {v N a : Nat} {x : wt_kd} (h : bG B S v) (hf : ∀ b, a ≤ b → S.1 b = none) : bG B (bN S N a x) v := by
  intro b hb
  obtain ⟨h1, h2, h3, h4⟩ := h b hb
  have hlt : b ≠ a := fun z => hb (by rw [← h1, z]; exact hf a (Nat.le_refl _))
  refine ⟨(if_neg hlt).trans h1, ?_, ?_, fun hv => ⟨(if_neg hlt).trans (h4 hv).1, (h4 hv).2⟩⟩
  · rw [← h2]; exact funext fun f => if_neg hlt
  · rw [← h3]; exact funext fun f => if_neg hlt
theorem bG.r {B : cB} {S : bS} {v a g : Nat} {x : Option Nat} (h : bG B S v) (ha : B.1 a = none) : bG B (bRf S a g x) v := by
  intro b hb
  obtain ⟨h1, h2, h3, h4⟩ := h b hb
  have hlt : b ≠ a := fun z => hb (by rw [z]; exact ha)
  exact ⟨h1, by rw [← h2]; exact wt_up2_row hlt, h3, h4⟩
theorem bG.m {B : cB} {S : bS} {v N a n k : Nat} (h : bG B S v) (hf : ∀ b, a ≤ b → S.1 b = none) : bG B (bM S N a n k) v := by
  intro b hb
  obtain ⟨h1, h2, h3, h4⟩ := h b hb
  have hlt : b < a := by
    rcases Nat.lt_or_ge b a with z | z
    · exact z
    · exact absurd (h1.symm.trans (hf b z)) hb
  refine ⟨((if_neg (by omega) : (bM S N a n k).1 b = _).trans (if_neg (by omega))).trans h1, ?_, ?_, fun hv => ⟨(if_neg (by omega)).trans (h4 hv).1, (h4 hv).2⟩⟩
  · exact ((if_neg (by omega) : (bM S N a n k).2.2.2.2.1 b = _).trans (if_neg (by omega))).trans h2
  · exact (if_neg (by omega) : (bM S N a n k).2.2.2.2.2 b = _).trans h3
section BM
variable {l : Launch} {G : wt_G} {X : wt_X} {y : MethodName} {cc : ByteArray} {nL fr pc : Nat} {L : List (Option Value)} {st : List Value} {S : bS} {D : wt_It} {N kc ks : Nat}
theorem bz_newi {n : Nat} (hF : bF G S N) (hc : wt_Cx l G X y cc nL fr) (d : decode cc pc = .ok (.newarray .int, 2)) (hN : n < 2 ^ 26) (h1 : 1 ≤ kc) (h2 : n ≤ ks)
    (kk : ∀ a, G.1 ≤ a → (∀ b, a ≤ b → S.1 b = none) → wt_V G X (pc + 2) L (.ref a :: st) (cz G (bB (bN S N a (.inr (0, n))) (wt_rw D N 0))) (kc - 1) (ks - n)) : wt_V G X pc L (.int (nI n) :: st) (cz G (bB S D)) kc ks := by
  refine cv_newa (t := 0) (N := n) hc d q188 rfl rfl (by decide) rfl hN h1 h2 (by decide) rfl (fun a ha hf => ?_)
  rw [bN_B hF.1]
  exact kk a ha hf
theorem bz_newo {idx ci n : Nat} {C : String} {T : u_T} (hF : bF G S N) (hc : wt_Cx l G X y cc nL fr) (hP : cP ci C T n) (d : decode cc pc = .ok (.new idx, 3)) (q1 : Cond.classLink y.cls idx C ∈ lw_all) (q2 : Cond.instantiable C n ∈ lw_all) (q3 : Cond.initialized C ∈ lw_all) (h1 : 1 ≤ kc) (h2 : n ≤ ks) (hdef : (List.range n).all (fun k => wt_okty (wt_ft ci k)) = true)
    (kk : ∀ a, G.1 ≤ a → (∀ b, a ≤ b → S.1 b = none) → wt_V G X (pc + 3) L (.ref a :: st) (cz G (bB (bN S N a (.inl ci)) (wt_rw D N 0))) (kc - 1) (ks - n)) : wt_V G X pc L st (cz G (bB S D)) kc ks := by
  refine cv_new hc hP d q1 q2 q3 h1 h2 hdef (fun a ha hf => ?_)
  rw [bN_B hF.1]
  exact kk a ha hf
theorem bz_multi {idx n k : Nat} (hF : bF G S N) (hc : wt_Cx l G X y cc nL fr) (hAO : cAO G) (d : decode cc pc = .ok (.multianewarray idx 2, 4)) (q1 : Cond.classLink y.cls idx "[[I" ∈ lw_all) (hn : n < 2 ^ 20) (hk : k < 2 ^ 20) (h1 : 1 + n ≤ kc) (h2 : n + n * k ≤ ks)
    (kk : ∀ a, G.1 ≤ a → (∀ b, a ≤ b → S.1 b = none) → wt_V G X (pc + 4) L (.ref a :: st) (cz G (bB (bM S N a n k) (bMD D N n))) (kc - (1 + n)) (ks - (n + n * k))) : wt_V G X pc L (.int (nI k) :: .int (nI n) :: st) (cz G (bB S D)) kc ks := by
  refine cv_multi n k hc hAO d q1 q188 hn hk h1 h2 (fun a ha hf => ?_)
  rw [bM_B hF]
  exact kk a ha hf
end BM
