/-! THE REFERENCE: what a night answers does not hang on what the scratch rows held before -/
set_option maxRecDepth 100000
theorem sp_rk_cong : ∀ (n : Nat) (M M' : wt_It) (k m : Nat), sp_cok (M 13) n k m → M' 13 = M 13 → (∀ q, q < 7 → M' 52 q = M 52 q) → (∀ j, j < m → M' 53 j = M 53 j) → sp_rk n M' k m 53 0 = sp_rk n M k m 53 0 := by
  intro n
  induction n with
  | zero => intro M M' k m h; exact h.elim
  | succ n ih =>
    intro M M' k m ⟨hk, hcase⟩ e13 e52 e53
    have key : ∀ (k' m' i : Nat) (v v' : Int32), sp_cok (M 13) n k' m' → v' = v → (∀ j, j < m' → j ≠ i → j < m) → sp_rk n (wt_up2 M' 53 i v') k' m' 53 0 = sp_rk n (wt_up2 M 53 i v) k' m' 53 0 := by
      intro k' m' i v v' h e hj
      refine ih _ _ _ _ (by exact h) (by exact e13) (fun q hq => e52 q hq) (fun j hj' => ?_)
      by_cases ej : j = i
      · subst ej
        rw [wt_up2_self, wt_up2_self, e]
      · rw [wt_up2_ne (fun z => ej z.2), wt_up2_ne (fun z => ej z.2)]
        exact e53 j (hj j hj' ej)
    rw [sp_rk, sp_rk, e13]
    rcases hcase with ⟨e, h1⟩ | ⟨e, h1, h2, h3⟩ | ⟨e, h1, h2, ⟨q, hq, eq⟩, h3⟩ | ⟨e, h1, h2, h3⟩ | ⟨⟨q, hq1, hq2, eq⟩, h1, h2, h3⟩
    · rw [if_pos e, if_pos e]
      exact e53 0 (by omega)
    · rw [if_neg (by rw [e]; decide), if_pos e, if_neg (by rw [e]; decide), if_pos e]
      exact key _ _ _ _ _ h3 rfl (fun j _ _ => by omega)
    · rw [if_neg (by rw [e]; decide), if_neg (by rw [e]; decide), if_pos e, if_neg (by rw [e]; decide), if_neg (by rw [e]; decide), if_pos e]
      exact key _ _ _ _ _ h3 (by rw [eq, nn_nI (by omega), e52 q hq]) (fun j _ _ => by omega)
    · have q0 : ¬ M 13 k = 0 := by rw [e]; decide
      have q1 : ¬ M 13 k = nI 1 := by rw [e]; decide
      have q2 : ¬ M 13 k = nI 2 := by rw [e]; decide
      rw [if_neg q0, if_neg q1, if_neg q2, if_pos e, if_neg q0, if_neg q1, if_neg q2, if_pos e, e53 (m - 1) (by omega)]
      exact key _ _ _ _ _ h3 rfl (fun j _ _ => by omega)
    · have hq3 : ∀ z, z < 4 → ¬ M 13 k = nI z := fun z hz q9 => by
        have := (nI_eq (a := q) (b := z) (by omega) (by omega)).mp (eq.symm.trans q9)
        omega
      rw [if_neg (show ¬ M 13 k = 0 from hq3 0 (by omega)), if_neg (hq3 1 (by omega)), if_neg (hq3 2 (by omega)), if_neg (hq3 3 (by omega)), if_neg (show ¬ M 13 k = 0 from hq3 0 (by omega)), if_neg (hq3 1 (by omega)), if_neg (hq3 2 (by omega)), if_neg (hq3 3 (by omega))]
      exact key _ _ _ _ _ h3 (by rw [e53 (m - 1) (by omega), e53 (m - 2) (by omega)]) (fun j _ _ => by omega)
theorem sp_Q.row {N M : wt_It} (h : sp_Q N M) {k : Nat} (h0 : k ≠ 0) (hk : sp_S k = false) : M k = N k := h.1 k h0 hk
theorem sp_Q.tr {N M M' : wt_It} (h : sp_Q N M) (h' : sp_Q M M') : sp_Q N M' := ⟨fun k h0 hk => (h'.1 k h0 hk).trans (h.1 k h0 hk), fun j hj => (h'.2 j hj).trans (h.2 j hj)⟩
theorem sp_Q.sy {N M : wt_It} (h : sp_Q N M) : sp_Q M N := ⟨fun k h0 hk => (h.1 k h0 hk).symm, fun j hj => (h.2 j hj).symm⟩
theorem sp_Q.night (M : wt_It) : sp_Q M (sp_night M) := sp_Q.of fun _ hk => sp_S_night M hk
theorem sp_Q.rides (M : wt_It) (p : Nat) : sp_Q M (sp_rides M p) := sp_Q.of fun _ hk => sp_S_rides M p hk
theorem sp_Q.homes (M : wt_It) : sp_Q M (sp_homes M).2 := sp_Q.of fun _ hk => sp_S_homes M hk
theorem sp_Q.up {N M : wt_It} (h : sp_Q N M) (k j : Nat) (v : Int32) (hk : k ≠ 0) : sp_Q (wt_up2 N k j v) (wt_up2 M k j v) := by
  refine ⟨fun i h0 hi => ?_, fun i hi => ?_⟩
  · by_cases e : i = k
    · subst e
      funext x
      by_cases ex : x = j
      · subst ex; rw [wt_up2_self, wt_up2_self]
      · rw [wt_up2_ne (fun z => ex z.2), wt_up2_ne (fun z => ex z.2), h.1 i h0 hi]
    · rw [wt_up2_row e, wt_up2_row e, h.1 i h0 hi]
  · rw [wt_up2_row (Ne.symm hk), wt_up2_row (Ne.symm hk), h.2 i hi]
theorem sp_city.Q {N M : wt_It} (h : sp_city N) (hq : sp_Q N M) : sp_city M := by
  unfold sp_city
  rw [hq.2 1 (by decide), hq.2 3 (by decide), hq.2 4 (by decide), hq.row (k := 9) (by decide) rfl, hq.row (k := 10) (by decide) rfl, hq.row (k := 11) (by decide) rfl]
  exact h
theorem sp_fok.Q {N M : wt_It} (h : sp_fok N) (hq : sp_Q N M) : sp_fok M := by
  unfold sp_fok
  rw [hq.row (k := 47) (by decide) rfl, hq.row (k := 12) (by decide) rfl, hq.row (k := 13) (by decide) rfl]
  exact h
theorem sp_cty.Q {N M : wt_It} {ro ow ri : Nat} (h : sp_cty N ro ow ri) (hq : sp_Q N M) : sp_cty M ro ow ri := h.row (fun j hj => hq.2 j hj) (hq.row (by decide) rfl) (hq.row (by decide) rfl) (hq.row (by decide) rfl)
/-- the roofs of ways stand -/
def sp_wy (M : wt_It) (ro ow : Nat) : Prop := ro ≤ 10 ∧ ow ≤ 5 ∧ M 0 1 = nI ro ∧ M 0 3 = nI ow ∧ ∀ o, o < ow → ∃ wl, wl ≤ 8 ∧ M 9 o = nI wl ∧ ∀ i, i < wl → ∃ r, r < ro ∧ M 10 (8 * o + i) = nI r
theorem sp_city.wy {M : wt_It} (h : sp_city M) : ∃ ro ow, sp_wy M ro ow := by
  obtain ⟨ro, h1, h2, ⟨ow, h3, h4, h5⟩, -⟩ := h
  exact ⟨ro, ow, h1, h3, h2, h4, h5⟩
theorem sp_wy.Q {N M : wt_It} {ro ow : Nat} (h : sp_wy N ro ow) (hq : sp_Q N M) : sp_wy M ro ow := by
  unfold sp_wy
  rw [hq.2 1 (by decide), hq.2 3 (by decide), hq.row (k := 9) (by decide) rfl, hq.row (k := 10) (by decide) rfl]
  exact h
theorem sp_nb_Q {N M : wt_It} (hq : sp_Q N M) (o : Nat) : sp_nb M o = sp_nb N o := by
  unfold sp_nb
  rw [hq.row (k := 47) (by decide) rfl]
/-- the same night, all through its loop -/
def sp_Li (ro ow : Nat) (M M' : wt_It) : Prop := sp_Q M M' ∧ (∀ r, r < ro → M' 56 r = M 56 r) ∧ ∀ o, o < ow → M' 57 o = M 57 o ∧ M' 58 o = M 58 o ∧ (¬ M 9 o ≤ M 58 o → M' 59 o = M 59 o) ∧ (sp_nb M o = false → ∀ i, i < nn (M 58 o) → M' 54 (8 * o + i) = M 54 (8 * o + i) ∧ M' 55 (8 * o + i) = M 55 (8 * o + i))
/-- the same night, over -/
def sp_Ln (ro ow : Nat) (M M' : wt_It) : Prop := sp_Q M M' ∧ (∀ r, r < ro → M' 56 r = M 56 r) ∧ ∀ o, o < ow → M' 57 o = M 57 o ∧ (sp_nb M o = false → ∀ i, i < nn (M 9 o) → M' 54 (8 * o + i) = M 54 (8 * o + i) ∧ M' 55 (8 * o + i) = M 55 (8 * o + i))
theorem sp_hu_cong {M M' : wt_It} {b r : Nat} (hf : sp_fok M) (hq : sp_Q M M') (e56 : M' 56 r = M 56 r) (e58 : M' 58 b = M 58 b) (e59 : M' 59 b = M 59 b) : sp_hu M' b r = sp_hu M b r := by
  have e47 : M' 47 = M 47 := hq.row (by decide) rfl
  have e8 : M' 8 = M 8 := hq.row (by decide) rfl
  have e12 : M' 12 = M 12 := hq.row (by decide) rfl
  have e13 : M' 13 = M 13 := hq.row (by decide) rfl
  unfold sp_hu sp_huM sp_h0
  rw [e47, e56, e12]
  rcases hf with hf | ⟨f, k, h1, h2, h3, h4, h5⟩
  · rw [if_pos hf, if_pos hf]
  · have hne : ¬ M 47 0 = -1 := by rw [h3]; exact sp_nI_m1 (by omega)
    rw [if_neg hne, if_neg hne, if_neg hne, if_neg hne, h3, nn_nI (by omega), h4, nn_nI (by omega)]
    refine congrArg sp_clamp (sp_rk_cong 2800 (sp_told M b r) (sp_told M' b r) k 0 ?_ ?_ (fun q hq => ?_) (fun j hj => absurd hj (by omega)))
    · rw [sp_told_row (by decide)]; exact h5
    · rw [sp_told_row (by decide), sp_told_row (by decide), e13]
    · rcases (by omega : q = 0 ∨ q = 1 ∨ q = 2 ∨ q = 3 ∨ q = 4 ∨ q = 5 ∨ q = 6) with rfl | rfl | rfl | rfl | rfl | rfl | rfl
      · exact e56
      · exact congrFun e47 _
      · exact congrFun e8 _
      · exact e58
      · exact congrFun e47 _
      · exact congrFun e47 _
      · show M' 59 b / nI 60 = M 59 b / nI 60
        rw [e59]
theorem sp_bs_cong {M M' : wt_It} {ow : Nat} (how : ow < 2 ^ 31) (e9 : M' 9 = M 9) (h : ∀ o, o < ow → M' 58 o = M 58 o ∧ (¬ M 9 o ≤ M 58 o → M' 59 o = M 59 o)) : ∀ n, n ≤ ow → sp_bs M' n = sp_bs M n := by
  intro n
  induction n with
  | zero => intro _; rfl
  | succ n ih =>
    intro hn
    obtain ⟨h1, h2⟩ := h n (by omega)
    rw [sp_bs, sp_bs, ih (by omega), e9, h1]
    by_cases c1 : ¬ M 9 n ≤ M 58 n
    · rw [h2 c1]
      rcases sp_bs_or M n with hb | ⟨b, hb1, hb2, hb3⟩
      · by_cases c2 : M 59 (nn (sp_bs M n)) ≤ M 59 n
        · simp [hb]
        · simp [hb]
      · rw [hb2, nn_nI (by omega), (h b (by omega)).2 hb3]
    · rw [if_neg (fun z => c1 z.1), if_neg (fun z => c1 z.1)]
/-- a stop of a night: what each row is then -/
theorem sp_ns_row (M : wt_It) (b a r : Nat) : (∀ j, sp_ns M b a r 54 j = if j = 8 * b + a then M 59 b else M 54 j) ∧ (∀ j, sp_ns M b a r 55 j = if j = 8 * b + a then M 59 b + sp_hu M b r else M 55 j) ∧ (∀ j, sp_ns M b a r 56 j = if j = r ∧ ¬ sp_hu M b r ≤ 0 ∧ ¬ M 56 r ≤ 0 then M 56 r - nI 1 else M 56 j) ∧ (∀ j, sp_ns M b a r 57 j = if j = b ∧ ¬ sp_hu M b r ≤ 0 ∧ ¬ M 56 r ≤ 0 then M 57 b + nI 1 else M 57 j) ∧ (∀ j, sp_ns M b a r 59 j = if j = b ∧ ¬ M 9 b ≤ nI (a + 1) then M 59 b + sp_hu M b r + sp_flies M b r (nn (M 10 (8 * b + a + 1))) else M 59 j) := by
  have hM : ∀ k, k ≠ 52 → k ≠ 53 → sp_huM M b r k = M k := fun k q1 q2 => sp_huM_row q1 q2
  have key : ∀ (k k' x j : Nat) (f : wt_It) (v : Int32), k ≠ k' → wt_up2 f k' x v k j = f k j := fun k k' x j f v h => congrFun (wt_up2_row h) j
  unfold sp_ns
  by_cases c1 : sp_hu M b r ≤ 0
  · by_cases c3 : M 9 b ≤ nI (a + 1)
    · rw [if_pos c1, if_pos c3]
      refine ⟨fun j => ?_, fun j => ?_, fun j => ?_, fun j => ?_, fun j => ?_⟩
      · rw [key _ _ _ _ _ _ (by decide), key _ _ _ _ _ _ (by decide)]
        unfold wt_up2; rw [hM 54 (by decide) (by decide)]; simp
      · rw [key _ _ _ _ _ _ (by decide)]
        unfold wt_up2; rw [hM 55 (by decide) (by decide)]; simp
      · rw [key _ _ _ _ _ _ (by decide), key _ _ _ _ _ _ (by decide), key _ _ _ _ _ _ (by decide), hM 56 (by decide) (by decide), if_neg (fun z => z.2.1 c1)]
      · rw [key _ _ _ _ _ _ (by decide), key _ _ _ _ _ _ (by decide), key _ _ _ _ _ _ (by decide), hM 57 (by decide) (by decide), if_neg (fun z => z.2.1 c1)]
      · rw [key _ _ _ _ _ _ (by decide), key _ _ _ _ _ _ (by decide), key _ _ _ _ _ _ (by decide), hM 59 (by decide) (by decide), if_neg (fun z => z.2 c3)]
    · rw [if_pos c1, if_neg c3]
      refine ⟨fun j => ?_, fun j => ?_, fun j => ?_, fun j => ?_, fun j => ?_⟩
      · rw [key _ _ _ _ _ _ (by decide), key _ _ _ _ _ _ (by decide), key _ _ _ _ _ _ (by decide)]
        unfold wt_up2; rw [hM 54 (by decide) (by decide)]; simp
      · rw [key _ _ _ _ _ _ (by decide), key _ _ _ _ _ _ (by decide)]
        unfold wt_up2; rw [hM 55 (by decide) (by decide)]; simp
      · rw [key _ _ _ _ _ _ (by decide), key _ _ _ _ _ _ (by decide), key _ _ _ _ _ _ (by decide), key _ _ _ _ _ _ (by decide), hM 56 (by decide) (by decide), if_neg (fun z => z.2.1 c1)]
      · rw [key _ _ _ _ _ _ (by decide), key _ _ _ _ _ _ (by decide), key _ _ _ _ _ _ (by decide), key _ _ _ _ _ _ (by decide), hM 57 (by decide) (by decide), if_neg (fun z => z.2.1 c1)]
      · by_cases ej : j = b
        · rw [ej, wt_up2_self, if_pos ⟨rfl, c3⟩]
        · rw [wt_up2_ne (fun z => ej z.2), if_neg (fun z => ej z.1), key _ _ _ _ _ _ (by decide), key _ _ _ _ _ _ (by decide), key _ _ _ _ _ _ (by decide), hM 59 (by decide) (by decide)]
  · by_cases c2 : M 56 r ≤ 0
    · by_cases c3 : M 9 b ≤ nI (a + 1)
      · rw [if_neg c1, if_pos c2, if_pos c3]
        refine ⟨fun j => ?_, fun j => ?_, fun j => ?_, fun j => ?_, fun j => ?_⟩
        · rw [key _ _ _ _ _ _ (by decide), key _ _ _ _ _ _ (by decide)]
          unfold wt_up2; rw [hM 54 (by decide) (by decide)]; simp
        · rw [key _ _ _ _ _ _ (by decide)]
          unfold wt_up2; rw [hM 55 (by decide) (by decide)]; simp
        · rw [key _ _ _ _ _ _ (by decide), key _ _ _ _ _ _ (by decide), key _ _ _ _ _ _ (by decide), hM 56 (by decide) (by decide), if_neg (fun z => z.2.2 c2)]
        · rw [key _ _ _ _ _ _ (by decide), key _ _ _ _ _ _ (by decide), key _ _ _ _ _ _ (by decide), hM 57 (by decide) (by decide), if_neg (fun z => z.2.2 c2)]
        · rw [key _ _ _ _ _ _ (by decide), key _ _ _ _ _ _ (by decide), key _ _ _ _ _ _ (by decide), hM 59 (by decide) (by decide), if_neg (fun z => z.2 c3)]
      · rw [if_neg c1, if_pos c2, if_neg c3]
        refine ⟨fun j => ?_, fun j => ?_, fun j => ?_, fun j => ?_, fun j => ?_⟩
        · rw [key _ _ _ _ _ _ (by decide), key _ _ _ _ _ _ (by decide), key _ _ _ _ _ _ (by decide)]
          unfold wt_up2; rw [hM 54 (by decide) (by decide)]; simp
        · rw [key _ _ _ _ _ _ (by decide), key _ _ _ _ _ _ (by decide)]
          unfold wt_up2; rw [hM 55 (by decide) (by decide)]; simp
        · rw [key _ _ _ _ _ _ (by decide), key _ _ _ _ _ _ (by decide), key _ _ _ _ _ _ (by decide), key _ _ _ _ _ _ (by decide), hM 56 (by decide) (by decide), if_neg (fun z => z.2.2 c2)]
        · rw [key _ _ _ _ _ _ (by decide), key _ _ _ _ _ _ (by decide), key _ _ _ _ _ _ (by decide), key _ _ _ _ _ _ (by decide), hM 57 (by decide) (by decide), if_neg (fun z => z.2.2 c2)]
        · by_cases ej : j = b
          · rw [ej, wt_up2_self, if_pos ⟨rfl, c3⟩]
          · rw [wt_up2_ne (fun z => ej z.2), if_neg (fun z => ej z.1), key _ _ _ _ _ _ (by decide), key _ _ _ _ _ _ (by decide), key _ _ _ _ _ _ (by decide), hM 59 (by decide) (by decide)]
    · by_cases c3 : M 9 b ≤ nI (a + 1)
      · rw [if_neg c1, if_neg c2, if_pos c3]
        refine ⟨fun j => ?_, fun j => ?_, fun j => ?_, fun j => ?_, fun j => ?_⟩
        · rw [key _ _ _ _ _ _ (by decide), key _ _ _ _ _ _ (by decide), key _ _ _ _ _ _ (by decide), key _ _ _ _ _ _ (by decide)]
          unfold wt_up2; rw [hM 54 (by decide) (by decide)]; simp
        · rw [key _ _ _ _ _ _ (by decide), key _ _ _ _ _ _ (by decide), key _ _ _ _ _ _ (by decide)]
          unfold wt_up2; rw [hM 55 (by decide) (by decide)]; simp
        · rw [key _ _ _ _ _ _ (by decide), key _ _ _ _ _ _ (by decide)]
          by_cases ej : j = r
          · rw [ej, wt_up2_self, if_pos ⟨rfl, c1, c2⟩]
          · rw [wt_up2_ne (fun z => ej z.2), if_neg (fun z => ej z.1), key _ _ _ _ _ _ (by decide), key _ _ _ _ _ _ (by decide), hM 56 (by decide) (by decide)]
        · rw [key _ _ _ _ _ _ (by decide)]
          by_cases ej : j = b
          · rw [ej, wt_up2_self, if_pos ⟨rfl, c1, c2⟩]
          · rw [wt_up2_ne (fun z => ej z.2), if_neg (fun z => ej z.1), key _ _ _ _ _ _ (by decide), key _ _ _ _ _ _ (by decide), key _ _ _ _ _ _ (by decide), hM 57 (by decide) (by decide)]
        · rw [key _ _ _ _ _ _ (by decide), key _ _ _ _ _ _ (by decide), key _ _ _ _ _ _ (by decide), key _ _ _ _ _ _ (by decide), key _ _ _ _ _ _ (by decide), hM 59 (by decide) (by decide), if_neg (fun z => z.2 c3)]
      · rw [if_neg c1, if_neg c2, if_neg c3]
        refine ⟨fun j => ?_, fun j => ?_, fun j => ?_, fun j => ?_, fun j => ?_⟩
        · rw [key _ _ _ _ _ _ (by decide), key _ _ _ _ _ _ (by decide), key _ _ _ _ _ _ (by decide), key _ _ _ _ _ _ (by decide), key _ _ _ _ _ _ (by decide)]
          unfold wt_up2; rw [hM 54 (by decide) (by decide)]; simp
        · rw [key _ _ _ _ _ _ (by decide), key _ _ _ _ _ _ (by decide), key _ _ _ _ _ _ (by decide), key _ _ _ _ _ _ (by decide)]
          unfold wt_up2; rw [hM 55 (by decide) (by decide)]; simp
        · rw [key _ _ _ _ _ _ (by decide), key _ _ _ _ _ _ (by decide), key _ _ _ _ _ _ (by decide)]
          by_cases ej : j = r
          · rw [ej, wt_up2_self, if_pos ⟨rfl, c1, c2⟩]
          · rw [wt_up2_ne (fun z => ej z.2), if_neg (fun z => ej z.1), key _ _ _ _ _ _ (by decide), key _ _ _ _ _ _ (by decide), hM 56 (by decide) (by decide)]
        · rw [key _ _ _ _ _ _ (by decide), key _ _ _ _ _ _ (by decide)]
          by_cases ej : j = b
          · rw [ej, wt_up2_self, if_pos ⟨rfl, c1, c2⟩]
          · rw [wt_up2_ne (fun z => ej z.2), if_neg (fun z => ej z.1), key _ _ _ _ _ _ (by decide), key _ _ _ _ _ _ (by decide), key _ _ _ _ _ _ (by decide), hM 57 (by decide) (by decide)]
        · by_cases ej : j = b
          · rw [ej, wt_up2_self, if_pos ⟨rfl, c3⟩]
          · rw [wt_up2_ne (fun z => ej z.2), if_neg (fun z => ej z.1), key _ _ _ _ _ _ (by decide), key _ _ _ _ _ _ (by decide), key _ _ _ _ _ _ (by decide), key _ _ _ _ _ _ (by decide), key _ _ _ _ _ _ (by decide), hM 59 (by decide) (by decide)]
theorem sp_Q.ns (M : wt_It) (b a r : Nat) : sp_Q M (sp_ns M b a r) := sp_Q.of fun k hk => by
  obtain ⟨-, a1, a2, a3, a4, a5, a6, a7, a8, -⟩ := sp_S_ne hk
  exact sp_ns_same M b a r k a1 a2 a3 a4 a5 a6 a7 a8
theorem sp_ns_cong {ro ow : Nat} {M M' : wt_It} (hL : sp_Li ro ow M M') (hf : sp_fok M) {b a r : Nat} (hb : b < ow) (hr : r < ro) (ha : ¬ M 9 b ≤ M 58 b) (ea : M 58 b = nI a) (hao : a < 8) : sp_Li ro ow (sp_ns M b a r) (sp_ns M' b a r) := by
  obtain ⟨hq, h56, ho⟩ := hL
  obtain ⟨e57, e58, e59, e54⟩ := ho b hb
  have hu : sp_hu M' b r = sp_hu M b r := sp_hu_cong hf hq (h56 r hr) e58 (e59 ha)
  have e9 : M' 9 = M 9 := hq.row (by decide) rfl
  have e10 : M' 10 = M 10 := hq.row (by decide) rfl
  have hfl : ∀ c, sp_flies M' b r c = sp_flies M b r c := fun c => sp_flies_same (hq.row (by decide) rfl) (hq.row (by decide) rfl) (hq.row (by decide) rfl)
  obtain ⟨r54, r55, r56, r57, r59⟩ := sp_ns_row M b a r
  obtain ⟨s54, s55, s56, s57, s59⟩ := sp_ns_row M' b a r
  have t58 := sp_ns_58 M b a r
  have u58 := sp_ns_58 M' b a r
  have hq2 : sp_Q (sp_ns M b a r) (sp_ns M' b a r) := (sp_Q.ns M b a r).sy.tr (hq.tr (sp_Q.ns M' b a r))
  have n9 : sp_ns M b a r 9 = M 9 := (sp_Q.ns M b a r).row (by decide) rfl
  refine ⟨hq2, fun j hj => ?_, fun o hoo => ?_⟩
  · rw [r56, s56, hu, h56 r hr, h56 j hj]
  · obtain ⟨f57, f58, f59, f54⟩ := ho o hoo
    refine ⟨?_, ?_, ?_, ?_⟩
    · rw [r57, s57, hu, h56 r hr, e57, f57]
    · rw [t58, u58, f58]
    · rw [r59, s59, n9, t58, hu, e59 ha, e9, e10, hfl]
      by_cases e : o = b
      · subst e
        rw [if_pos rfl]
        intro z
        rw [if_pos ⟨rfl, z⟩, if_pos ⟨rfl, z⟩]
      · rw [if_neg e, if_neg (fun z => e z.1), if_neg (fun z => e z.1)]
        exact f59
    · rw [sp_nb_Q (sp_Q.ns M b a r) o, t58]
      intro hnb i hi
      rw [r54, s54, r55, s55, hu, e59 ha]
      by_cases e : o = b
      · subst e
        rw [if_pos rfl, nn_nI (by omega)] at hi
        by_cases ei : 8 * o + i = 8 * o + a
        · rw [if_pos ei, if_pos ei, if_pos ei, if_pos ei]
          exact ⟨rfl, rfl⟩
        · rw [if_neg ei, if_neg ei, if_neg ei, if_neg ei]
          exact f54 hnb i (by rw [ea, nn_nI (by omega)]; omega)
      · rw [if_neg e] at hi
        by_cases ei : 8 * o + i = 8 * b + a
        · rw [if_pos ei, if_pos ei, if_pos ei, if_pos ei]
          exact ⟨rfl, rfl⟩
        · rw [if_neg ei, if_neg ei, if_neg ei, if_neg ei]
          exact f54 hnb i hi
theorem sp_nok_ns {M : wt_It} {ow b a r wl : Nat} (hk : sp_nok M ow) (hb : b < ow) (ha : a < wl) (hwl : wl ≤ 8) (e9 : M 9 b = nI wl) : sp_nok (sp_ns M b a r) ow := by
  have n9 : sp_ns M b a r 9 = M 9 := (sp_Q.ns M b a r).row (by decide) rfl
  intro o ho
  by_cases e : o = b
  · subst e
    exact ⟨a + 1, wl, ha, hwl, by rw [sp_ns_58, if_pos rfl], by rw [n9, e9]⟩
  · obtain ⟨a', wl', g1, g2, g3, g4⟩ := hk o ho
    exact ⟨a', wl', g1, g2, by rw [sp_ns_58, if_neg e, g3], by rw [n9, g4]⟩
/-- all owls have come -/
def sp_dn (M : wt_It) (ow : Nat) : Prop := ∀ o, o < ow → M 9 o ≤ M 58 o
theorem sp_bs_dn {M : wt_It} : ∀ n, sp_bs M n = -1 → n < 2 ^ 31 → sp_dn M n := by
  intro n
  induction n with
  | zero => intro _ _ o ho; omega
  | succ n ih =>
    intro h hn o ho
    rw [sp_bs] at h
    split at h
    · exact absurd h (sp_nI_m1 (by omega))
    · rename_i hc
      by_cases e : o = n
      · subst e
        exact Decidable.byContradiction fun z => hc ⟨z, Or.inl h⟩
      · exact ih h (by omega) o (by omega)
theorem sp_nl_cong {ro ow : Nat} : ∀ (n : Nat) (M M' : wt_It), sp_wy M ro ow → sp_fok M → sp_nok M ow → sp_Li ro ow M M' → sp_left M ow < n → sp_Li ro ow (sp_nl n M) (sp_nl n M') ∧ sp_dn (sp_nl n M) ow ∧ sp_nok (sp_nl n M) ow := by
  intro n
  induction n with
  | zero => intro M M' _ _ _ _ h; omega
  | succ n ih =>
    intro M M' hw hf hk hL hlt
    obtain ⟨hro, how, e1, e3, hway⟩ := hw
    have e3' : M' 0 3 = nI ow := (hL.1.2 3 (by decide)).trans e3
    have hb0 : sp_bs M' ow = sp_bs M ow := sp_bs_cong (by omega) (hL.1.row (by decide) rfl) (fun o ho => ⟨(hL.2.2 o ho).2.1, (hL.2.2 o ho).2.2.1⟩) ow (Nat.le_refl _)
    rw [sp_nl, sp_nl, e3', e3, nn_nI (by omega), hb0]
    rcases sp_bs_or M ow with hb | ⟨b, hb1, hb2, hb3⟩
    · rw [if_pos hb, if_pos hb]
      exact ⟨hL, sp_bs_dn ow hb (by omega), hk⟩
    · obtain ⟨a, wl, h1, h2, e58, e9⟩ := hk b hb1
      have hawl : a < wl := by
        rcases Nat.lt_or_ge a wl with q | q
        · exact q
        · exact absurd (by rw [e58, e9]; exact nI_le q (by omega)) hb3
      obtain ⟨wl', h6, h7, h8⟩ := hway b hb1
      have e2 : wl' = wl := (nI_eq (by omega) (by omega)).mp (h7.symm.trans e9)
      subst e2
      obtain ⟨r, hr, er⟩ := h8 a hawl
      have er' : M' 10 (8 * b + a) = nI r := by rw [hL.1.row (k := 10) (by decide) rfl]; exact er
      rw [if_neg (by rw [hb2]; exact sp_nI_m1 (by omega)), if_neg (by rw [hb2]; exact sp_nI_m1 (by omega)), hb2, nn_nI (by omega), (hL.2.2 b hb1).2.1, e58, nn_nI (by omega), er, er', nn_nI (by omega)]
      have hwy : sp_wy M ro ow := ⟨hro, how, e1, e3, hway⟩
      refine ih _ _ (hwy.Q (sp_Q.ns M b a r)) (hf.Q (sp_Q.ns M b a r)) (sp_nok_ns hk hb1 hawl h2 e9) (sp_ns_cong hL hf hb1 hr hb3 e58 (by omega)) ?_
      have n9 : sp_ns M b a r 9 = M 9 := (sp_Q.ns M b a r).row (by decide) rfl
      have := sp_left_lt (M := M) (M' := sp_ns M b a r) hawl h2 e58 e9 (by rw [sp_ns_58, if_pos rfl]) (by rw [n9, e9]) ow hb1 (fun o _ ho => ⟨by rw [n9], by rw [sp_ns_58, if_neg ho]⟩)
      omega
