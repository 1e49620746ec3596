/-! CLASSES: a night is made -/
set_option maxRecDepth 100000
def bA (S : bS) (N : Nat) (A : Nat → Nat) : Prop := ∀ j, j < N → S.2.1 j = A j
/-- a bank in the making: N places of kinds kd, references ρ, addresses A; grown over S0 -/
def bQ (G : wt_G) (S0 S : bS) (n0 N : Nat) (kd : Nat → wt_kd) (ρ : Nat → Nat → Option Nat) (A : Nat → Nat) : Prop := bF G S N ∧ bT S N kd ρ ∧ bA S N A ∧ S.2.2.2.1 = S0.2.2.2.1 ∧ ∀ B v, bG B S0 v → B.1 n0 = none → bG B S v
theorem bQ.n {G : wt_G} {S0 S : bS} {n0 N a i g : Nat} {x : wt_kd} {kd : Nat → wt_kd} {ρ : Nat → Nat → Option Nat} {A : Nat → Nat} (h : bQ G S0 S n0 N kd ρ A) (ha : G.1 ≤ a) (hf : ∀ b, a ≤ b → S.1 b = none) (hi : i < N) (ei : A i = n0) : bQ G S0 (bRf (bN S N a x) n0 g (some a)) n0 (N + 1) (fun j => if j = N then x else kd j) (wt_up2 (fun j => if j = N then (fun _ => none) else ρ j) i g (some a)) (fun j => if j = N then a else A j) := by
  obtain ⟨h1, h2, h3, h4, h5⟩ := h
  have e : (bN S N a x).2.1 i = n0 := by rw [bN_old hi, h3 i hi, ei]
  refine ⟨bRf_F (bN_F h1 ha hf), ?_, fun j hj => ?_, h4, fun B v hB hn => (((h5 B v hB hn).n hf).r hn)⟩
  · rw [← e]
    exact (h2.n h1 hf).r (bN_F h1 ha hf) (by omega)
  · show (bN S N a x).2.1 j = if j = N then a else A j
    by_cases e2 : j = N
    · rw [if_pos e2, e2, bN_new]
    · rw [if_neg e2, bN_old (by omega), h3 j (by omega)]
theorem bQ.m {G : wt_G} {S0 S : bS} {n0 N a i g n k : Nat} {kd : Nat → wt_kd} {ρ : Nat → Nat → Option Nat} {A : Nat → Nat} (h : bQ G S0 S n0 N kd ρ A) (ha : G.1 ≤ a) (hf : ∀ b, a ≤ b → S.1 b = none) (hi : i < N) (ei : A i = n0) : bQ G S0 (bRf (bM S N a n k) n0 g (some a)) n0 (N + 1 + n) (fun j => if j = N then .inr (4, n) else if N < j then .inr (0, k) else kd j) (wt_up2 (fun j => if j = N then (fun i => if i < n then some (a + 1 + i) else none) else if N < j then (fun _ => none) else ρ j) i g (some a)) (fun j => if N ≤ j then a + (j - N) else A j) := by
  obtain ⟨h1, h2, h3, h4, h5⟩ := h
  have e : (bM S N a n k).2.1 i = n0 := by
    rw [show (bM S N a n k).2.1 i = S.2.1 i from if_neg (by omega), h3 i hi, ei]
  refine ⟨bRf_F (bM_F h1 ha hf), ?_, fun j hj => ?_, h4, fun B v hB hn => (((h5 B v hB hn).m hf).r hn)⟩
  · rw [← e]
    exact (h2.m h1 hf).r (bM_F h1 ha hf) (by omega)
  · show (if N ≤ j then a + (j - N) else S.2.1 j) = if N ≤ j then a + (j - N) else A j
    by_cases e2 : N ≤ j
    · rw [if_pos e2, if_pos e2]
    · rw [if_neg e2, if_neg e2, h3 j (by omega)]
section NI
variable {l : Launch} {G : wt_G} {X : wt_X} {y : MethodName} {cc : ByteArray} {nL fr pc : Nat} {L : List (Option Value)} {st : List Value} {S0 S : bS} {D : wt_It} {N kc ks n0 : Nat} {kd : Nat → wt_kd} {ρ : Nat → Nat → Option Nat} {A : Nat → Nat}
theorem bz_fi {idx ci n m : Nat} {ref C : String} {T : u_T} (i g : Nat) (hQ : bQ G S0 S n0 N kd ρ A) (hi : i < N) (ei : A i = n0) (hk : kd i = .inl ci) (hc : wt_Cx l G X y cc nL fr) (hin : y.name = "<init>") (hw : cOld (.inl ci) = false) (hP : cP ci C T m) (d1 : decode cc pc = .ok (.newarray .int, 2)) (d2 : decode cc (pc + 2) = .ok (.putfield idx, 3)) (q : Cond.fieldLink y.cls idx ref (T g).2.1 (T g).2.2.1 ∈ lw_all) (hg : g < m) (ht : ∀ i r j, wt_fv (wt_ft ci g) i r j = va_rf r) (hd : wt_sf ref (T g)) (hd2 : (T g).1 = y.cls) (hfin : (T g).2.2.2 = true) (hn : ∀ a, narrow (wt_ft ci g) (.ref a) = .ref a) (hfit : ∀ a, fits (wt_ft ci g) (.ref a) = true) (hN : n < 2 ^ 26) (h1 : 1 ≤ kc) (h2 : n ≤ ks)
    (kk : ∀ S' a, bQ G S0 S' n0 (N + 1) (fun j => if j = N then .inr (0, n) else kd j) (wt_up2 (fun j => if j = N then (fun _ => none) else ρ j) i g (some a)) (fun j => if j = N then a else A j) → wt_V G X (pc + 5) L st (cz G (bB S' (wt_rw D N 0))) (kc - 1) (ks - n)) : wt_V G X pc L (.int (nI n) :: .ref n0 :: st) (cz G (bB S D)) kc ks := by
  refine bz_newi hQ.1 hc d1 hN h1 h2 (fun a ha hf => ?_)
  have hQ2 := hQ.n (g := g) (x := .inr (0, n)) ha hf hi ei
  have hK : (bN S N a (.inr (0, n))).1 n0 = some (.inl ci) := by
    have h := (hQ2.2.1 i (by omega)).1
    rw [hQ2.2.2.1 i (by omega)] at h
    simp only [if_neg (show ¬ i = N by omega), ei, hk] at h
    exact h
  exact cv_putFr (pc := pc + 2) (x := some a) g hc hin hw ((bN_F hQ.1 ha hf).1.ok _) hP hK d2 q hg ht hd hd2 hfin (hn a) (hfit a) (kk _ a hQ2)
theorem bz_fm {idx idx2 ci n k m : Nat} {ref C : String} {T : u_T} (i g : Nat) (hQ : bQ G S0 S n0 N kd ρ A) (hi : i < N) (ei : A i = n0) (hk : kd i = .inl ci) (hc : wt_Cx l G X y cc nL fr) (hAO : cAO G) (hin : y.name = "<init>") (hw : cOld (.inl ci) = false) (hP : cP ci C T m) (d1 : decode cc pc = .ok (.multianewarray idx2 2, 4)) (q1 : Cond.classLink y.cls idx2 "[[I" ∈ lw_all) (d2 : decode cc (pc + 4) = .ok (.putfield idx, 3)) (q : Cond.fieldLink y.cls idx ref (T g).2.1 (T g).2.2.1 ∈ lw_all) (hg : g < m) (ht : ∀ i r j, wt_fv (wt_ft ci g) i r j = va_rf r) (hd : wt_sf ref (T g)) (hd2 : (T g).1 = y.cls) (hfin : (T g).2.2.2 = true) (hn : ∀ a, narrow (wt_ft ci g) (.ref a) = .ref a) (hfit : ∀ a, fits (wt_ft ci g) (.ref a) = true) (hN : n < 2 ^ 20) (hN2 : k < 2 ^ 20) (h1 : 1 + n ≤ kc) (h2 : n + n * k ≤ ks)
    (kk : ∀ S' a, bQ G S0 S' n0 (N + 1 + n) (fun j => if j = N then .inr (4, n) else if N < j then .inr (0, k) else kd j) (wt_up2 (fun j => if j = N then (fun i => if i < n then some (a + 1 + i) else none) else if N < j then (fun _ => none) else ρ j) i g (some a)) (fun j => if N ≤ j then a + (j - N) else A j) → wt_V G X (pc + 7) L st (cz G (bB S' (bMD D N n))) (kc - (1 + n)) (ks - (n + n * k))) : wt_V G X pc L (.int (nI k) :: .int (nI n) :: .ref n0 :: st) (cz G (bB S D)) kc ks := by
  refine bz_multi hQ.1 hc hAO d1 q1 hN hN2 h1 h2 (fun a ha hf => ?_)
  have hQ2 := hQ.m (g := g) (n := n) (k := k) ha hf hi ei
  have hK : (bM S N a n k).1 n0 = some (.inl ci) := by
    have h := (hQ2.2.1 i (by omega)).1
    rw [hQ2.2.2.1 i (by omega)] at h
    simp only [if_neg (show ¬ i = N by omega), if_neg (show ¬ N < i by omega), if_neg (show ¬ N ≤ i by omega), ei, hk] at h
    exact h
  exact cv_putFr (pc := pc + 4) (x := some a) g hc hin hw ((bM_F hQ.1 ha hf).1.ok _) hP hK d2 q hg ht hd hd2 hfin (hn a) (hfit a) (kk _ a hQ2)
/-- what a new night is: S the bank, x whose it is, B ahead of it -/
def cNw (G : wt_G) (S0 : bS) (x n0 : Nat) (u0 u1 u2 u3 : Int32) (S : bS) (D : wt_It) : Prop := bE G S 19 ∧ cW S x ∧ S.2.1 0 = S0.2.1 0 ∧ S.2.1 1 = n0 ∧ S.2.2.2.1 = S0.2.2.2.1 ∧ (∀ B v, bG B S0 v → B.1 n0 = none → bG B S v) ∧ D 1 0 = u0 ∧ D 1 1 = u1 ∧ D 1 2 = u2 ∧ D 1 3 = u3 ∧ (∀ j, D 2 j = 0) ∧ bF G S 19
theorem ct_X11_init (hAO : cAO G) (x : Nat) (u0 u1 u2 u3 : Int32) (hF : bF G S 2) (K0 : S.1 (S.2.1 0) = some (.inr (0, 7))) (K1 : S.1 (S.2.1 1) = some (.inl 3)) (hx : S.1 x = some (.inl 0)) (i0 : ∀ D, (bB S D).2.1 x 2 = u0) (i1 : ∀ D, (bB S D).2.1 x 3 = u1) (i2 : ∀ D, (bB S D).2.1 x 4 = u2) (i3 : ∀ D, (bB S D).2.1 x 5 = u3) (hu3 : u3 = nI 0 ∨ u3 = nI 1) : wt_Ct l G yX11_init cX11_init 2 none 2 17 130 [.ref (S.2.1 1), .ref x] (cz G (bB S D)) (wt_pv (fun H => ∃ S' D', cNw G S x (S.2.1 1) u0 u1 u2 u3 S' D' ∧ cz G (bB S' D') H)) := by
  have hE := hF.1
  refine wt_enter [some (.ref (S.2.1 1)), some (.ref x)] (by decide +kernel) rfl (Nat.le_of_ble_eq_true rfl) (fun X hc hok => ?_)
  refine wt_aload_0 (pc := 0) hc dX11_init_0 ?_
  refine wt_aload_1 (pc := 1) hc dX11_init_1 ?_
  refine cv_putFr (pc := 2) (x := some x) 11 hc rfl rfl (hE.ok D) cP3 K1 dX11_init_2 q497 (by decide) (fun _ _ _ => rfl) (Or.inl rfl) rfl rfl rfl rfl ?_
  show wt_V G X 5 _ [] (cz G (bB (bRf S (S.2.1 1) 11 (some x)) D)) 17 130
  refine wt_aload_0 (pc := 5) hc dX11_init_5 ?_
  refine cv_obj (pc := 6) hc dX11_init_6 q472 q152 q153 (by decide) (Nat.le_of_ble_eq_true rfl) rfl ?_
  refine wt_aload_0 (pc := 9) hc dX11_init_9 ?_
  refine wt_aload_0 (pc := 10) hc dX11_init_10 ?_
  refine cv_getr (pc := 11) (b := x) 11 hc cP3 (K1) dX11_init_11 q497 (by decide) (Or.inl rfl) (fun _ _ _ => rfl) (wt_up2_self _ _ _ _) ?_
  refine cv_getiN (pc := 14) 2 (u0) hc cP0 (hx) dX11_init_14 q245 (by decide) (Or.inl rfl) (fun _ _ _ => rfl) (i0 D) ?_
  refine bz_puti (pc := 17) 1 0 hE (by omega) hc cP3 (K1) dX11_init_17 q474 (by decide) (fun _ _ _ => rfl) (Or.inl rfl) rfl rfl rfl ?_
  refine wt_aload_0 (pc := 20) hc dX11_init_20 ?_
  refine wt_aload_0 (pc := 21) hc dX11_init_21 ?_
  refine cv_getr (pc := 22) (b := x) 11 hc cP3 (K1) dX11_init_22 q497 (by decide) (Or.inl rfl) (fun _ _ _ => rfl) (wt_up2_self _ _ _ _) ?_
  refine cv_getiN (pc := 25) 3 (u1) hc cP0 (hx) dX11_init_25 q247 (by decide) (Or.inl rfl) (fun _ _ _ => rfl) (i1 _) ?_
  refine bz_puti (pc := 28) 1 1 hE (by omega) hc cP3 (K1) dX11_init_28 q476 (by decide) (fun _ _ _ => rfl) (Or.inl rfl) rfl rfl rfl ?_
  refine wt_aload_0 (pc := 31) hc dX11_init_31 ?_
  refine wt_aload_0 (pc := 32) hc dX11_init_32 ?_
  refine cv_getr (pc := 33) (b := x) 11 hc cP3 (K1) dX11_init_33 q497 (by decide) (Or.inl rfl) (fun _ _ _ => rfl) (wt_up2_self _ _ _ _) ?_
  refine cv_getiN (pc := 36) 4 (u2) hc cP0 (hx) dX11_init_36 q249 (by decide) (Or.inl rfl) (fun _ _ _ => rfl) (i2 _) ?_
  refine bz_puti (pc := 39) 1 2 hE (by omega) hc cP3 (K1) dX11_init_39 q478 (by decide) (fun _ _ _ => rfl) (Or.inl rfl) rfl rfl rfl ?_
  refine wt_aload_0 (pc := 42) hc dX11_init_42 ?_
  refine wt_aload_0 (pc := 43) hc dX11_init_43 ?_
  refine cv_getr (pc := 44) (b := x) 11 hc cP3 (K1) dX11_init_44 q497 (by decide) (Or.inl rfl) (fun _ _ _ => rfl) (wt_up2_self _ _ _ _) ?_
  refine cv_getiN (pc := 47) 5 (u3) hc cP0 (hx) dX11_init_47 q251 (by decide) (Or.inl rfl) (fun _ _ _ => rfl) (i3 _) ?_
  refine bz_puti (pc := 50) 1 3 hE (by omega) hc cP3 (K1) dX11_init_50 q480 (by decide) (fun _ _ _ => rfl) (Or.inl rfl) rfl (by rcases hu3 with z | z <;> rw [z] <;> rfl) (by rcases hu3 with z | z <;> rw [z] <;> rfl) ?_
  have hQ : bQ G S (bRf S (S.2.1 1) 11 (some x)) (S.2.1 1) 2 (fun j => if j = 0 then .inr (0, 7) else .inl 3) (wt_up2 (fun j f => S.2.2.2.2.1 (S.2.1 j) f) 1 11 (some x)) S.2.1 := by
    have hT0 : bT S 2 (fun j => if j = 0 then .inr (0, 7) else .inl 3) (fun j f => S.2.2.2.2.1 (S.2.1 j) f) := by
      intro j hj
      refine ⟨?_, fun f => rfl⟩
      have : j = 0 ∨ j = 1 := by omega
      rcases this with rfl | rfl
      · exact K0
      · exact K1
    exact ⟨bRf_F hF, hT0.r hF (by decide), fun j hj => rfl, rfl, fun B v hB hn => hB.r hn⟩
  generalize bRf S (S.2.1 1) 11 (some x) = S1 at hQ ⊢
  refine wt_aload_0 (pc := 53) hc dX11_init_53 ?_
  refine wt_bipush (pc := 54) (v := nI 10) hc dX11_init_54 (by decide) ?_
  refine bz_fi (pc := 56) 1 4 hQ (by decide) rfl rfl hc rfl rfl cP3 dX11_init_56 dX11_init_58 q482 (by decide) (fun _ _ _ => rfl) (Or.inl rfl) rfl rfl (fun _ => rfl) (fun _ => rfl) (by decide) (by decide) (by decide) (fun S2 a2 hQ2 => ?_)
  refine wt_aload_0 (pc := 61) hc dX11_init_61 ?_
  refine wt_bipush (pc := 62) (v := nI 10) hc dX11_init_62 (by decide) ?_
  refine bz_fi (pc := 64) 1 5 hQ2 (by decide) rfl rfl hc rfl rfl cP3 dX11_init_64 dX11_init_66 q484 (by decide) (fun _ _ _ => rfl) (Or.inl rfl) rfl rfl (fun _ => rfl) (fun _ => rfl) (by decide) (by decide) (by decide) (fun S3 a3 hQ3 => ?_)
  refine wt_aload_0 (pc := 69) hc dX11_init_69 ?_
  refine wt_iconst (pc := 70) (v := nI 5) hc dX11_init_70 (by decide) ?_
  refine bz_fi (pc := 71) 1 6 hQ3 (by decide) rfl rfl hc rfl rfl cP3 dX11_init_71 dX11_init_73 q486 (by decide) (fun _ _ _ => rfl) (Or.inl rfl) rfl rfl (fun _ => rfl) (fun _ => rfl) (by decide) (by decide) (by decide) (fun S4 a4 hQ4 => ?_)
  refine wt_aload_0 (pc := 76) hc dX11_init_76 ?_
  refine wt_iconst (pc := 77) (v := nI 5) hc dX11_init_77 (by decide) ?_
  refine bz_fi (pc := 78) 1 7 hQ4 (by decide) rfl rfl hc rfl rfl cP3 dX11_init_78 dX11_init_80 q488 (by decide) (fun _ _ _ => rfl) (Or.inl rfl) rfl rfl (fun _ => rfl) (fun _ => rfl) (by decide) (by decide) (by decide) (fun S5 a5 hQ5 => ?_)
  refine wt_aload_0 (pc := 83) hc dX11_init_83 ?_
  refine wt_iconst (pc := 84) (v := nI 5) hc dX11_init_84 (by decide) ?_
  refine wt_bipush (pc := 85) (v := nI 8) hc dX11_init_85 (by decide) ?_
  refine bz_fm (pc := 87) 1 8 hQ5 (by decide) rfl rfl hc hAO rfl rfl cP3 dX11_init_87 q473 dX11_init_91 q489 (by decide) (fun _ _ _ => rfl) (Or.inl rfl) rfl rfl (fun _ => rfl) (fun _ => rfl) (by decide) (by decide) (by decide) (by decide) (fun S6 a6 hQ6 => ?_)
  refine wt_aload_0 (pc := 94) hc dX11_init_94 ?_
  refine wt_iconst (pc := 95) (v := nI 5) hc dX11_init_95 (by decide) ?_
  refine wt_bipush (pc := 96) (v := nI 8) hc dX11_init_96 (by decide) ?_
  refine bz_fm (pc := 98) 1 9 hQ6 (by decide) rfl rfl hc hAO rfl rfl cP3 dX11_init_98 q473 dX11_init_102 q492 (by decide) (fun _ _ _ => rfl) (Or.inl rfl) rfl rfl (fun _ => rfl) (fun _ => rfl) (by decide) (by decide) (by decide) (by decide) (fun S7 a7 hQ7 => ?_)
  refine wt_aload_0 (pc := 105) hc dX11_init_105 ?_
  refine wt_bipush (pc := 106) (v := nI 10) hc dX11_init_106 (by decide) ?_
  refine bz_fi (pc := 108) 1 10 hQ7 (by decide) rfl rfl hc rfl rfl cP3 dX11_init_108 dX11_init_110 q495 (by decide) (fun _ _ _ => rfl) (Or.inl rfl) rfl rfl (fun _ => rfl) (fun _ => rfl) (by decide) (by decide) (by decide) (fun S8 a8 hQ8 => ?_)
  clear hQ hQ2 hQ3 hQ4 hQ5 hQ6 hQ7
  obtain ⟨g1, g2, g3, g4, g5⟩ := hQ8
  have fin : ∀ D', cNw G S x (S.2.1 1) (D' 1 0) (D' 1 1) (D' 1 2) (D' 1 3) S8 D' ∨ ¬ ∀ j, D' 2 j = 0 := by
    intro D'
    by_cases hz : ∀ j, D' 2 j = 0
    · refine Or.inl ⟨g1.1, ⟨(g2 0 (by decide)).1, (g2 1 (by decide)).1, (g2 2 (by decide)).1, (g2 3 (by decide)).1, (g2 4 (by decide)).1, (g2 5 (by decide)).1, (g2 6 (by decide)).1, (g2 12 (by decide)).1, (g2 18 (by decide)).1, fun o ho => ?_, fun o ho => ?_, ((g2 1 (by decide)).2 4).trans (congrArg some (g3 2 (by decide)).symm), ((g2 1 (by decide)).2 5).trans (congrArg some (g3 3 (by decide)).symm), ((g2 1 (by decide)).2 6).trans (congrArg some (g3 4 (by decide)).symm), ((g2 1 (by decide)).2 7).trans (congrArg some (g3 5 (by decide)).symm), ((g2 1 (by decide)).2 8).trans (congrArg some (g3 6 (by decide)).symm), ((g2 1 (by decide)).2 9).trans (congrArg some (g3 12 (by decide)).symm), ((g2 1 (by decide)).2 10).trans (congrArg some (g3 18 (by decide)).symm), (g2 1 (by decide)).2 11⟩, g3 0 (by decide), g3 1 (by decide), g4, g5, rfl, rfl, rfl, rfl, hz, g1⟩
      · have : o = 0 ∨ o = 1 ∨ o = 2 ∨ o = 3 ∨ o = 4 := by omega
        rcases this with rfl | rfl | rfl | rfl | rfl
        · exact ⟨(g2 7 (by decide)).1, ((g2 6 (by decide)).2 0).trans (congrArg some (g3 7 (by decide)).symm)⟩
        · exact ⟨(g2 8 (by decide)).1, ((g2 6 (by decide)).2 1).trans (congrArg some (g3 8 (by decide)).symm)⟩
        · exact ⟨(g2 9 (by decide)).1, ((g2 6 (by decide)).2 2).trans (congrArg some (g3 9 (by decide)).symm)⟩
        · exact ⟨(g2 10 (by decide)).1, ((g2 6 (by decide)).2 3).trans (congrArg some (g3 10 (by decide)).symm)⟩
        · exact ⟨(g2 11 (by decide)).1, ((g2 6 (by decide)).2 4).trans (congrArg some (g3 11 (by decide)).symm)⟩
      · have : o = 0 ∨ o = 1 ∨ o = 2 ∨ o = 3 ∨ o = 4 := by omega
        rcases this with rfl | rfl | rfl | rfl | rfl
        · exact ⟨(g2 13 (by decide)).1, ((g2 12 (by decide)).2 0).trans (congrArg some (g3 13 (by decide)).symm)⟩
        · exact ⟨(g2 14 (by decide)).1, ((g2 12 (by decide)).2 1).trans (congrArg some (g3 14 (by decide)).symm)⟩
        · exact ⟨(g2 15 (by decide)).1, ((g2 12 (by decide)).2 2).trans (congrArg some (g3 15 (by decide)).symm)⟩
        · exact ⟨(g2 16 (by decide)).1, ((g2 12 (by decide)).2 3).trans (congrArg some (g3 16 (by decide)).symm)⟩
        · exact ⟨(g2 17 (by decide)).1, ((g2 12 (by decide)).2 4).trans (congrArg some (g3 17 (by decide)).symm)⟩
    · exact Or.inr hz
  exact wt_vret (pc := 113) hc hok dX11_init_113 (fun H hZ => ⟨rfl, S8, _, (fin _).resolve_right (fun z => z (fun j => rfl)), hZ⟩)
end NI
