/-! CLASS ENGINE: a bank: cells whose ints are told by their places -/
set_option maxRecDepth 100000
/-- kinds, addresses of the places, places of the addresses, the other ints, references, longs -/
abbrev bS : Type := wt_Kt × (Nat → Nat) × (Nat → Option Nat) × wt_It × wt_Rt × wt_Jt
def ov (ix : Nat → Option Nat) (D I : wt_It) : wt_It := fun a => match ix a with
  | some j => D j
  | none => I a
def bB (S : bS) (D : wt_It) : cB := (S.1, ov S.2.2.1 D S.2.2.2.1, S.2.2.2.2.1, S.2.2.2.2.2)
/-- N places, each with its address; new cells only -/
def bE (G : wt_G) (S : bS) (N : Nat) : Prop := (∀ a x, S.1 a = some x → cOld x = false → G.1 ≤ a) ∧ (∀ j, j < N → S.2.2.1 (S.2.1 j) = some j) ∧ ∀ a j, S.2.2.1 a = some j → j < N ∧ a = S.2.1 j
theorem bE.ok {G : wt_G} {S : bS} {N : Nat} (h : bE G S N) (D : wt_It) : cOK G (bB S D) := h.1
theorem ov_at {G : wt_G} {S : bS} {N j : Nat} {D : wt_It} (h : bE G S N) (hj : j < N) : (bB S D).2.1 (S.2.1 j) = D j := by
  show ov S.2.2.1 D S.2.2.2.1 (S.2.1 j) = D j
  unfold ov
  rw [h.2.1 j hj]
theorem ov_out {S : bS} {a : Nat} {D : wt_It} (h : S.2.2.1 a = none) : (bB S D).2.1 a = S.2.2.2.1 a := by
  show ov S.2.2.1 D S.2.2.2.1 a = _
  unfold ov
  rw [h]
theorem bB_up {G : wt_G} {S : bS} {N j k : Nat} {D : wt_It} {v : Int32} (h : bE G S N) (hj : j < N) : cI (bB S D) (S.2.1 j) k v = bB S (wt_up2 D j k v) := by
  have e : wt_up2 (ov S.2.2.1 D S.2.2.2.1) (S.2.1 j) k v = ov S.2.2.1 (wt_up2 D j k v) S.2.2.2.1 := by
    funext a x
    cases hi : S.2.2.1 a with
    | none =>
      have ha : a ≠ S.2.1 j := fun z => by rw [z, h.2.1 j hj] at hi; cases hi
      rw [wt_up2_ne (fun z => ha z.1)]
      unfold ov
      rw [hi]
    | some i =>
      have hi2 := (h.2.2 a i hi).2
      unfold ov
      by_cases e : i = j
      · subst e
        by_cases ex : x = k
        · rw [hi, hi2, ex, wt_up2_self]
          show v = wt_up2 D i k v i k
          rw [wt_up2_self]
        · rw [wt_up2_ne (fun z => ex z.2), hi]
          show D i x = wt_up2 D i k v i x
          rw [wt_up2_ne (fun z => ex z.2)]
      · have ha : a ≠ S.2.1 j := fun z => by
          rw [z, h.2.1 j hj] at hi
          exact e (Option.some.inj hi).symm
        rw [wt_up2_ne (fun z => ha z.1), hi]
        show D i x = wt_up2 D j k v i x
        rw [wt_up2_ne (fun z => e z.1)]
  show ((S.1, wt_up2 (ov S.2.2.1 D S.2.2.2.1) (S.2.1 j) k v, S.2.2.2.2.1, S.2.2.2.2.2) : cB) = _
  rw [e]
  rfl
/-- a new place N at a new cell -/
def bN (S : bS) (N a : Nat) (x : wt_kd) : bS := ((fun b => if b = a then some x else S.1 b), (fun j => if j = N then a else S.2.1 j), (fun b => if b = a then some N else S.2.2.1 b), S.2.2.2.1, wt_rw S.2.2.2.2.1 a none, wt_rw S.2.2.2.2.2 a 0)
theorem bN_old {S : bS} {N a j : Nat} {x : wt_kd} (h : j < N) : (bN S N a x).2.1 j = S.2.1 j := if_neg (by omega)
theorem bN_new {S : bS} {N a : Nat} {x : wt_kd} : (bN S N a x).2.1 N = a := if_pos rfl
theorem bN_E {G : wt_G} {S : bS} {N a : Nat} {x : wt_kd} (h : bE G S N) (ha : G.1 ≤ a) (hf : ∀ j, j < N → S.2.1 j ≠ a) : bE G (bN S N a x) (N + 1) := by
  refine ⟨fun b y hb ho => ?_, fun j hj => ?_, fun b j hb => ?_⟩
  · by_cases e : b = a
    · rw [e]; exact ha
    · rw [show (bN S N a x).1 b = S.1 b from if_neg e] at hb
      exact h.1 b y hb ho
  · by_cases e : j = N
    · rw [e, bN_new]
      exact if_pos rfl
    · rw [bN_old (by omega)]
      rw [show (bN S N a x).2.2.1 (S.2.1 j) = S.2.2.1 (S.2.1 j) from if_neg (hf j (by omega))]
      exact h.2.1 j (by omega)
  · by_cases e : b = a
    · rw [show (bN S N a x).2.2.1 b = some N from if_pos e] at hb
      rw [← Option.some.inj hb, bN_new]
      exact ⟨by omega, e⟩
    · rw [show (bN S N a x).2.2.1 b = S.2.2.1 b from if_neg e] at hb
      have := h.2.2 b j hb
      rw [bN_old this.1]
      exact ⟨by omega, this.2⟩
theorem bN_B {G : wt_G} {S : bS} {N a : Nat} {x : wt_kd} {D : wt_It} (h : bE G S N) : cN (bB S D) a x = bB (bN S N a x) (wt_rw D N 0) := by
  have e : wt_rw (ov S.2.2.1 D S.2.2.2.1) a 0 = ov (bN S N a x).2.2.1 (wt_rw D N 0) S.2.2.2.1 := by
    funext b k
    by_cases eb : b = a
    · rw [show wt_rw (ov S.2.2.1 D S.2.2.2.1) a 0 b k = 0 from if_pos eb]
      unfold ov
      rw [show (bN S N a x).2.2.1 b = some N from if_pos eb]
      exact (if_pos rfl).symm
    · rw [show wt_rw (ov S.2.2.1 D S.2.2.2.1) a 0 b k = ov S.2.2.1 D S.2.2.2.1 b k from if_neg eb]
      unfold ov
      rw [show (bN S N a x).2.2.1 b = S.2.2.1 b from if_neg eb]
      cases hi : S.2.2.1 b with
      | none => rfl
      | some i =>
        show D i k = wt_rw D N 0 i k
        exact (if_neg (Nat.ne_of_lt (h.2.2 b i hi).1)).symm
  show ((fun b => if b = a then some x else S.1 b), wt_rw (ov S.2.2.1 D S.2.2.2.1) a 0, wt_rw S.2.2.2.2.1 a none, wt_rw S.2.2.2.2.2 a 0) = _
  rw [e]
  rfl
section BK
variable {l : Launch} {G : wt_G} {X : wt_X} {y : MethodName} {cc : ByteArray} {nL fr pc : Nat} {L : List (Option Value)} {st : List Value} {S : bS} {D : wt_It} {NB kc ks : Nat}
theorem bz_geti {idx ci N : Nat} {ref C : String} {T : u_T} (j k : Nat) (v : Int32) (hE : bE G S NB) (hj : j < NB) (hc : wt_Cx l G X y cc nL fr) (hP : cP ci C T N) (hK : S.1 (S.2.1 j) = some (.inl ci)) (d : decode cc pc = .ok (.getfield idx, 3)) (q : Cond.fieldLink y.cls idx ref (T k).2.1 (T k).2.2.1 ∈ lw_all) (hk : k < N) (hd : wt_sf ref (T k)) (ht : ∀ i r j, wt_fv (wt_ft ci k) i r j = .int i) (hv : D j k = v)
    (kk : wt_V G X (pc + 3) L (.int v :: st) (cz G (bB S D)) kc ks) : wt_V G X pc L (.ref (S.2.1 j) :: st) (cz G (bB S D)) kc ks := cv_geti k v hc hP hK d q hk hd ht (by rw [ov_at hE hj]; exact hv) kk
theorem bz_getiN {idx ci N : Nat} {ref C host : String} {T : u_T} (j k : Nat) (v : Int32) (hE : bE G S NB) (hj : j < NB) (hc : wt_Cx l G X y cc nL fr) (hP : cP ci C T N) (hK : S.1 (S.2.1 j) = some (.inl ci)) (d : decode cc pc = .ok (.getfield idx, 3)) (q : Cond.fieldLinkNest y.cls idx ref (T k).2.1 (T k).2.2.1 host ∈ lw_tbl) (hk : k < N) (hd : wt_sf ref (T k)) (ht : ∀ i r j, wt_fv (wt_ft ci k) i r j = .int i) (hv : D j k = v)
    (kk : wt_V G X (pc + 3) L (.int v :: st) (cz G (bB S D)) kc ks) : wt_V G X pc L (.ref (S.2.1 j) :: st) (cz G (bB S D)) kc ks := cv_getiN k v hc hP hK d q hk hd ht (by rw [ov_at hE hj]; exact hv) kk
theorem bz_puti {idx ci N : Nat} {ref C : String} {T : u_T} {x : Int32} (j k : Nat) (hE : bE G S NB) (hj : j < NB) (hc : wt_Cx l G X y cc nL fr) (hP : cP ci C T N) (hK : S.1 (S.2.1 j) = some (.inl ci)) (d : decode cc pc = .ok (.putfield idx, 3)) (q : Cond.fieldLink y.cls idx ref (T k).2.1 (T k).2.2.1 ∈ lw_all) (hk : k < N) (ht : ∀ i r j, wt_fv (wt_ft ci k) i r j = .int i) (hd : wt_sf ref (T k)) (hfin : (T k).2.2.2 = false) (hn : narrow (wt_ft ci k) (.int x) = .int x) (hfit : fits (wt_ft ci k) (.int x) = true)
    (kk : wt_V G X (pc + 3) L st (cz G (bB S (wt_up2 D j k x))) kc ks) : wt_V G X pc L (.int x :: .ref (S.2.1 j) :: st) (cz G (bB S D)) kc ks := cv_puti k hc (hE.ok D) hP hK d q hk ht hd hfin hn hfit (by rw [bB_up hE hj]; exact kk)
theorem bz_putNi {idx ci N : Nat} {ref C host : String} {T : u_T} {x : Int32} (j k : Nat) (hE : bE G S NB) (hj : j < NB) (hc : wt_Cx l G X y cc nL fr) (hP : cP ci C T N) (hK : S.1 (S.2.1 j) = some (.inl ci)) (d : decode cc pc = .ok (.putfield idx, 3)) (q : Cond.fieldLinkNest y.cls idx ref (T k).2.1 (T k).2.2.1 host ∈ lw_tbl) (hk : k < N) (ht : ∀ i r j, wt_fv (wt_ft ci k) i r j = .int i) (hd : wt_sf ref (T k)) (hfin : (T k).2.2.2 = false) (hn : narrow (wt_ft ci k) (.int x) = .int x) (hfit : fits (wt_ft ci k) (.int x) = true)
    (kk : wt_V G X (pc + 3) L st (cz G (bB S (wt_up2 D j k x))) kc ks) : wt_V G X pc L (.int x :: .ref (S.2.1 j) :: st) (cz G (bB S D)) kc ks := cv_putNi k hc (hE.ok D) hP hK d q hk ht hd hfin hn hfit (by rw [bB_up hE hj]; exact kk)
theorem bz_iald {n : Nat} {i : Int32} (jb j : Nat) (v : Int32) (hE : bE G S NB) (hjb : jb < NB) (hc : wt_Cx l G X y cc nL fr) (hK : S.1 (S.2.1 jb) = some (.inr (0, n))) (d : decode cc pc = .ok (.iaload, 1)) (hi : i = nI j) (hj : j < n) (hs : n < 2 ^ 31) (hv : D jb j = v)
    (kk : wt_V G X (pc + 1) L (.int v :: st) (cz G (bB S D)) kc ks) : wt_V G X pc L (.int i :: .ref (S.2.1 jb) :: st) (cz G (bB S D)) kc ks := cv_iald j v hc hK d hi hj hs (by rw [ov_at hE hjb]; exact hv) kk
theorem bz_bald {n : Nat} {i : Int32} (jb j : Nat) (v : Int32) (hE : bE G S NB) (hjb : jb < NB) (hc : wt_Cx l G X y cc nL fr) (hK : S.1 (S.2.1 jb) = some (.inr (1, n))) (d : decode cc pc = .ok (.baload, 1)) (hi : i = nI j) (hj : j < n) (hs : n < 2 ^ 31) (hv : D jb j = v)
    (kk : wt_V G X (pc + 1) L (.int v :: st) (cz G (bB S D)) kc ks) : wt_V G X pc L (.int i :: .ref (S.2.1 jb) :: st) (cz G (bB S D)) kc ks := cv_bald j v hc hK d hi hj hs (by rw [ov_at hE hjb]; exact hv) kk
theorem bz_iast {n : Nat} {i x : Int32} (jb j : Nat) (hE : bE G S NB) (hjb : jb < NB) (hc : wt_Cx l G X y cc nL fr) (hK : S.1 (S.2.1 jb) = some (.inr (0, n))) (d : decode cc pc = .ok (.iastore, 1)) (hi : i = nI j) (hj : j < n) (hs : n < 2 ^ 31)
    (kk : wt_V G X (pc + 1) L st (cz G (bB S (wt_up2 D jb j x))) kc ks) : wt_V G X pc L (.int x :: .int i :: .ref (S.2.1 jb) :: st) (cz G (bB S D)) kc ks := cv_iast j hc (hE.ok D) hK d hi hj hs (by rw [bB_up hE hjb]; exact kk)
/-- another way to say what the ints are -/
theorem bz_eq {D' : wt_It} (h : D' = D) (k : wt_V G X pc L st (cz G (bB S D)) kc ks) : wt_V G X pc L st (cz G (bB S D')) kc ks := by rw [h]; exact k
end BK
