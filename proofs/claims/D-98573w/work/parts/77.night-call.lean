/-! CLASSES: night(): a night out of what x is set to -/
set_option maxRecDepth 100000
def cHuB (B : cB) (M : wt_It) (q : Nat → Nat) (ru : Nat) : Prop := ∀ f, f < ru → ∃ n φ, n ≤ 90 ∧ cFo B n (q (40 + f)) φ ∧ ∃ k, k < 2 ^ 31 ∧ M 12 f = nI k ∧ ∀ N : wt_It, N 13 = M 13 → sp_rk 2800 N k 0 53 0 = φ (N 52)
/-- what a night needs of x: the city, the values' row v, the settings -/
def cN0 (G : wt_G) (B : cB) (M : wt_It) (q : Nat → Nat) (v ro ow ri ru : Nat) : Prop := cOK G B ∧ cY B M q ro ow ri ru ∧ B.2.2.1 (q 0) 1 = some v ∧ B.1 v = some (.inr (0, 7)) ∧ ((sp_city M ∧ M 0 1 = nI ro ∧ M 0 3 = nI ow ∧ M 0 4 = nI ri ∧ M 0 5 = nI ru) ∧ ro ≤ 10 ∧ ow ≤ 5 ∧ ri ≤ 8 ∧ ru ≤ 4) ∧ cHuB B M q ru ∧ (B.2.1 (q 0) 2 = M 47 0 ∧ B.2.1 (q 0) 3 = M 47 1 ∧ B.2.1 (q 0) 4 = M 47 3 ∧ B.2.1 (q 0) 5 = M 47 2) ∧ (M 47 2 = nI 0 ∨ M 47 2 = nI 1) ∧ (M 47 0 = -1 ∨ ∃ f, f < ru ∧ M 47 0 = nI f)
/-- the bank of one place, over B -/
def bV (B : cB) (v : Nat) : bS := (B.1, (fun _ => v), (fun b => if b = v then some 0 else none), B.2.1, B.2.2.1, B.2.2.2)
theorem bV_B (B : cB) (v : Nat) : bB (bV B v) (fun _ => B.2.1 v) = B := by
  have e : ov (bV B v).2.2.1 (fun _ => B.2.1 v) B.2.1 = B.2.1 := by
    funext a
    unfold ov
    by_cases h : a = v
    · rw [show (bV B v).2.2.1 a = some 0 from if_pos h, h]
    · rw [show (bV B v).2.2.1 a = none from if_neg h]
  show (B.1, ov (bV B v).2.2.1 (fun _ => B.2.1 v) B.2.1, B.2.2.1, B.2.2.2) = B
  rw [e]
theorem bV_F {G : wt_G} {B : cB} {v : Nat} {k : wt_kd} (hG : cOK G B) (hv : B.1 v = some k) : bF G (bV B v) 1 := by
  refine ⟨⟨hG, fun j hj => (show (if v = v then some 0 else none) = some j from by rw [if_pos rfl, show j = 0 from by omega]), fun a j ha => ?_⟩, fun j hj z => ?_⟩
  · by_cases h : a = v
    · rw [show (bV B v).2.2.1 a = some 0 from if_pos h] at ha
      exact ⟨by have := Option.some.inj ha; omega, h⟩
    · rw [show (bV B v).2.2.1 a = none from if_neg h] at ha
      cases ha
  · have : B.1 v = none := z
    rw [hv] at this
    cases this
theorem bV_G (B : cB) (v : Nat) : bG B (bV B v) v := fun a _ => ⟨rfl, rfl, rfl, fun hv => ⟨if_neg hv, rfl⟩⟩
theorem bG.ae {B : cB} {S : bS} {v : Nat} (h : bG B S v) (hv : B.1 v = some (.inr (0, 7))) (D : wt_It) : cAe B (bB S D) := by
  intro a k ha hk
  have hne : B.1 a ≠ none := by rw [ha]; exact fun z => by cases z
  have hav : a ≠ v := fun z => hk (by rw [z, hv] at ha; exact (Option.some.inj ha).symm)
  obtain ⟨h1, h2, h3, -⟩ := h a hne
  exact ⟨h1.trans ha, h.ints hne hav, h2⟩
/-- a run night of x: S the bank, D its ints, P the reference's memory for it -/
def cNt (G : wt_G) (B : cB) (M P : wt_It) (q : Nat → Nat) (v ro ow ri ru : Nat) (S : bS) (D : wt_It) : Prop := bF G S 19 ∧ cW S (q 0) ∧ cYS S M q ro ow ri ru ∧ cHu S M q ru ∧ bG B S v ∧ S.2.1 0 = v ∧ cSet D M P ro ow ru
theorem sp_S_night' {P : wt_It} {k : Nat} (h : sp_S k = false) : sp_night P k = P k := sp_night_same P k (fun e => by rw [e] at h; cases h) (fun e => by rw [e] at h; cases h) (fun e => by rw [e] at h; cases h) (fun e => by rw [e] at h; cases h) (fun e => by rw [e] at h; cases h) (fun e => by rw [e] at h; cases h) (fun e => by rw [e] at h; cases h) (fun e => by rw [e] at h; cases h)
theorem cRn.rq {D D' M P : wt_It} {ro ow ru : Nat} (h : cRn D D' (sp_night P) ro ow) (hs : cSet D M P ro ow ru) : cRq D' M (sp_night P) ow ∧ sp_night P 8 = M 8 := by
  obtain ⟨⟨s0, s1, s2, s3, s4, s5⟩, sg, sm, sz, sk⟩ := hs
  obtain ⟨-, -, h3, h4⟩ := h
  refine ⟨⟨(sp_S_night' rfl).trans (sk 9 (by decide) (by decide) rfl), (sp_S_night' rfl).trans (sk 10 (by decide) (by decide) rfl), (sp_S_night' rfl).trans (sk 11 (by decide) (by decide) rfl), ?_, fun j hj => ?_, h3⟩, (sp_S_night' rfl).trans (sk 8 (by decide) (by decide) rfl)⟩
  · rw [sp_S_night' rfl, s3, h4 1 (Or.inl rfl)]
  · rw [sp_S_night' rfl]; exact sz j hj
theorem wt_exSD {G : wt_G} {X : wt_X} {pc : Nat} {L : List (Option Value)} {st : List Value} {kc ks : Nat} {P : bS → wt_It → Prop} (k : ∀ S D, P S D → wt_V G X pc L st (cz G (bB S D)) kc ks) : wt_V G X pc L st (fun H => ∃ S D, P S D ∧ cz G (bB S D) H) kc ks := by
  refine wt_ex (S := {u : bS × wt_It // P u.1 u.2}) (Z' := fun u => cz G (bB u.1.1 u.1.2)) (fun H h => ?_) (fun u => k u.1.1 u.1.2 u.2)
  obtain ⟨S, D, h1, h2⟩ := h
  exact ⟨⟨(S, D), h1⟩, h2⟩
section NK
variable {l : Launch} {G : wt_G} {B : cB} {M : wt_It} {q : Nat → Nat} {v ro ow ri ru : Nat}
theorem cNw.t {S0 S : bS} {D : wt_It} {n0 : Nat} (h : cN0 G B M q v ro ow ri ru) (hn0 : B.1 n0 = none) (hG0 : bG B S0 v) (h0 : S0.2.1 0 = v) (hw : cNw G S0 (q 0) n0 (M 47 0) (M 47 1) (M 47 3) (M 47 2) S D) : cNt G B M M q v ro ow ri ru S D ∧ S.2.1 1 = n0 := by
  obtain ⟨a1, a2, a3, a4, a5, a6, a7, a8, a9⟩ := h
  obtain ⟨w1, w2, w3, w4, w5, w6, w7, w8, w9, w10, w11, w12⟩ := hw
  have hG := w6 B v hG0 hn0
  have hv0 : S.2.1 0 = v := w3.trans h0
  have hxv : q 0 ≠ v := fun z => by have := a2.1; rw [z, a4] at this; cases this
  refine ⟨⟨w12, w2, ⟨fun D => a2.ext (hG.ae a4 D), ?_, a5⟩, fun f hf => ?_, hG, hv0, ⟨w7.symm, w8.symm, w10.symm, w9.symm, ?_, ?_⟩, fun r hr => ?_, fun o ho => rfl, fun j hj => rfl, fun k _ _ _ => rfl⟩, w4⟩
  · rw [(hG (q 0) (by rw [a2.1]; exact fun z => by cases z)).2.1, hv0]
    exact a3
  · obtain ⟨n, φ, hn, hfo, hk⟩ := a6 f hf
    exact ⟨n, φ, hn, fun D => hfo.ext (hG.ae a4 D), hk⟩
  · rw [w10]; exact a8
  · rw [w7]; exact a9
  · rw [w11 r]; exact (Int32.add_zero _).symm
theorem ct_X1_night (hX : cX G) (hSt : cSt G) (hAO : cAO G) (h : cN0 G B M q v ro ow ri ru) : wt_Ct l G yX1_night cX1_night 1 (some (.object "WingTrams$Night")) 104 18 142 [.ref (q 0)] (cz G B) (wt_pr (fun r H => ∃ S D D', (cNt G B M M q v ro ow ri ru S D ∧ S.2.1 1 = r ∧ cRn D D' (sp_night M) ro ow) ∧ cz G (bB S D') H)) := by
  have h0 := h
  obtain ⟨a1, a2, a3, a4, a5, a6, ⟨a71, a72, a73, a74⟩, a8, a9⟩ := h
  have hF0 := bV_F a1 a4
  have hxv : q 0 ≠ v := fun z => by have := a2.1; rw [z, a4] at this; cases this
  refine wt_enter [some (.ref (q 0))] (by decide +kernel) rfl (Nat.le_of_ble_eq_true rfl) (fun X hc hok => ?_)
  rw [← bV_B B v]
  refine bz_newo (pc := 0) (n := 12) hF0 hc cP3 dX1_night_0 q467 q468 q143 (by decide) (by decide) (by decide) (fun a ha hf => ?_)
  have hF1 := bN_F (x := .inl 3) hF0 ha hf
  have hBa : B.1 a = none := hf a (Nat.le_refl _)
  have hva : v ≠ a := fun z => by rw [← z, a4] at hBa; cases hBa
  have hxa : q 0 ≠ a := fun z => by have := a2.1; rw [z, hBa] at this; cases this
  have e1 : (bN (bV B v) 1 a (.inl 3)).2.1 1 = a := bN_new
  have hx1 : ∀ D k, (bB (bN (bV B v) 1 a (.inl 3)) D).2.1 (q 0) k = B.2.1 (q 0) k := fun D k => by
    rw [ov_out (show (bN (bV B v) 1 a (.inl 3)).2.2.1 (q 0) = none from (if_neg hxa).trans (if_neg hxv))]
    rfl
  have hi := ct_X11_init (l := l) (S := bN (bV B v) 1 a (.inl 3)) (D := wt_rw (fun _ => B.2.1 v) 1 0) hAO (q 0) (M 47 0) (M 47 1) (M 47 3) (M 47 2) hF1 ((if_neg hva).trans a4) ((congrArg _ e1).trans (if_pos rfl)) ((if_neg hxa).trans a2.1) (fun D => (hx1 D 2).trans a71) (fun D => (hx1 D 3).trans a72) (fun D => (hx1 D 4).trans a73) (fun D => (hx1 D 5).trans a74) a8
  rw [e1] at hi
  have Ka : (bN (bV B v) 1 a (.inl 3)).1 a = some (.inl 3) := if_pos rfl
  refine wt_dup (pc := 3) hc dX1_night_3 rfl ?_
  refine wt_aload_0 (pc := 4) hc dX1_night_4 ?_
  refine wt_gov (wt_invIN (pc := 5) 1 hc (hi) dX1_night_5 rfl q469 q470 q143 q471 rfl (by decide +kernel) rfl (by first | decide | omega) (by decide) (Nat.le_of_ble_eq_true rfl) rfl) (by decide) (by decide) ?_
  refine wt_exSD (fun S D hw => ?_)
  have hG0 : bG B (bN (bV B v) 1 a (.inl 3)) v := (bV_G B v).n hf
  obtain ⟨hT, e2⟩ := cNw.t h0 hBa hG0 (bN_old (by decide)) hw
  obtain ⟨t1, t2, t3, t4, t5, t6, t7⟩ := hT
  have hr := ct_X11_run (l := l) (D := D) hX hSt t1.1 (Nat.le_refl _) t2 t3 t4 t7
  rw [e2] at hr
  have Kn : S.1 a = some (.inl 3) := by rw [← e2]; exact t2.n
  refine wt_gofr (wt_invV (pc := 8) 0 hc (hr) dX1_night_8 rfl (fun s H => cz_recv cP3 (Kn) s H) q523 q524 q525 q143 q526 (by decide +kernel) rfl (by first | decide | omega) (by decide) (Nat.le_of_ble_eq_true rfl) rfl) ?_
  exact wt_aret (pc := 11) hc hok dX1_night_11 (Or.inl ⟨_, rfl⟩) (fun H hZ => (by obtain ⟨D', h1, h2⟩ := hZ; exact ⟨a, rfl, S, D, D', ⟨⟨t1, t2, t3, t4, t5, t6, t7⟩, e2, h1⟩, h2⟩))
end NK
