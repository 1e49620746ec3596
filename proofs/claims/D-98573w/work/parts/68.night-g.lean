/-! CLASSES: what is known of cells stays known as others change -/
set_option maxRecDepth 100000
/-- B' has all that B has, but the ints of rows of seven -/
def cAe (B B' : cB) : Prop := ∀ a k, B.1 a = some k → k ≠ .inr (0, 7) → B'.1 a = some k ∧ B'.2.1 a = B.2.1 a ∧ B'.2.2.1 a = B.2.2.1 a
theorem cL.ext {B B' : cB} {a c : Nat} {e : Nat → Nat} (h : cL B a c e) (hA : cAe B B') : cL B' a c e := by
  obtain ⟨h1, h2, d, n, h3, h4, h5, h6, h7⟩ := h
  obtain ⟨g1, g2, g3⟩ := hA a _ h1 (by decide)
  obtain ⟨f1, f2, f3⟩ := hA d _ h3 (fun z => by cases z)
  exact ⟨g1, by rw [g2]; exact h2, d, n, f1, by rw [g3]; exact h4, h5, h6, fun i hi => by rw [f3]; exact h7 i hi⟩
theorem cO.ext {B B' : cB} {o wl : Nat} {k m : Int32} {way : Nat → Int32} (h : cO B o k m wl way) (hA : cAe B B') : cO B' o k m wl way := by
  obtain ⟨h1, h2, h3, a, e, h4, h5, h6⟩ := h
  obtain ⟨g1, g2, g3⟩ := hA o _ h1 (by decide)
  refine ⟨g1, by rw [g2]; exact h2, by rw [g2]; exact h3, a, e, by rw [g3]; exact h4, h5.ext hA, fun i hi => ?_⟩
  obtain ⟨f1, f2⟩ := h6 i hi
  obtain ⟨e1, e2, -⟩ := hA _ _ f1 (by decide)
  exact ⟨e1, by rw [e2]; exact f2⟩
theorem cSb.ext {B B' : cB} {a n : Nat} {c : Nat → Nat} (h : cSb B a n c) (hA : cAe B B') : cSb B' a n c := by
  obtain ⟨h1, h2, h3, d, m, h4, h5, h6, h7, h8⟩ := h
  obtain ⟨g1, g2, g3⟩ := hA a _ h1 (by decide)
  obtain ⟨f1, f2, -⟩ := hA d _ h5 (fun z => by cases z)
  exact ⟨g1, by rw [g2]; exact h2, by rw [g2]; exact h3, d, m, by rw [g3]; exact h4, f1, h6, h7, fun i hi => ⟨(h8 i hi).1, by rw [f2]; exact (h8 i hi).2⟩⟩
theorem cFo.ext {B B' : cB} (hA : cAe B B') : ∀ n a φ, cFo B n a φ → cFo B' n a φ := by
  intro n
  induction n with
  | zero => intro a φ h; exact h.elim
  | succ n ih =>
    intro a φ h
    rcases h with ⟨hK, h⟩ | ⟨hK, w, hw, ew, h⟩ | ⟨hK, b, ψ, rb, hb, h⟩ | ⟨hK, lst, c, e, sb, sg, f, r1, hL, r2, hs, hsg, hf, hcc, h⟩
    · obtain ⟨g1, g2, g3⟩ := hA a _ hK (by decide)
      exact Or.inl ⟨g1, by rw [g2]; exact h⟩
    · obtain ⟨g1, g2, g3⟩ := hA a _ hK (by decide)
      exact Or.inr (Or.inl ⟨g1, w, hw, by rw [g2]; exact ew, h⟩)
    · obtain ⟨g1, g2, g3⟩ := hA a _ hK (by decide)
      exact Or.inr (Or.inr (Or.inl ⟨g1, b, ψ, by rw [g3]; exact rb, ih b ψ hb, h⟩))
    · obtain ⟨g1, g2, g3⟩ := hA a _ hK (by decide)
      exact Or.inr (Or.inr (Or.inr ⟨g1, lst, c, e, sb, sg, f, by rw [g3]; exact r1, hL.ext hA, by rw [g3]; exact r2, hs.ext hA, hsg, fun i hi => ih _ _ (hf i hi), hcc, h⟩))
theorem cFo.mono {B : cB} : ∀ n m a φ, n ≤ m → cFo B n a φ → cFo B m a φ := by
  intro n
  induction n with
  | zero => intro m a φ _ h; exact h.elim
  | succ n ih =>
    intro m a φ hm h
    obtain ⟨m, rfl⟩ : ∃ z, m = z + 1 := ⟨m - 1, by omega⟩
    rcases h with h | h | ⟨hK, b, ψ, rb, hb, h⟩ | ⟨hK, lst, c, e, sb, sg, f, r1, hL, r2, hs, hsg, hf, hcc, h⟩
    · exact Or.inl h
    · exact Or.inr (Or.inl h)
    · exact Or.inr (Or.inr (Or.inl ⟨hK, b, ψ, rb, ih m b ψ (by omega) hb, h⟩))
    · exact Or.inr (Or.inr (Or.inr ⟨hK, lst, c, e, sb, sg, f, r1, hL, r2, hs, hsg, fun i hi => ih m _ _ (by omega) (hf i hi), hcc, h⟩))
theorem cY.ext {B B' : cB} {M : wt_It} {q : Nat → Nat} {ro ow ri ru : Nat} (h : cY B M q ro ow ri ru) (hA : cAe B B') : cY B' M q ro ow ri ru := by
  obtain ⟨h1, h2, h3, ⟨h4, h5, h6⟩, ⟨h7, h8, h9⟩, ⟨h10, h11, h12⟩, ⟨h13, h14, h15⟩, ⟨h16, h17, h18⟩, h19, h20⟩ := h
  obtain ⟨x1, x2, x3⟩ := hA _ _ h1 (by decide)
  obtain ⟨c1, c2, c3⟩ := hA _ _ h3 (by decide)
  obtain ⟨g1, g2, g3⟩ := hA _ _ h8 (by decide)
  obtain ⟨m1, m2, m3⟩ := hA _ _ h11 (by decide)
  refine ⟨x1, by rw [x3]; exact h2, c1, ⟨by rw [c2]; exact h4, by rw [c2]; exact h5, by rw [c2]; exact h6⟩, ⟨by rw [c3]; exact h7, g1, fun r hr => by rw [g2]; exact h9 r hr⟩, ⟨by rw [c3]; exact h10, m1, fun a ha => ?_⟩, ⟨by rw [c3]; exact h13, h14.ext hA, fun o ho => ?_⟩, ⟨by rw [c3]; exact h16, h17.ext hA, fun p hp => ?_⟩, by rw [c3]; exact h19, h20.ext hA⟩
  · obtain ⟨r1, r2, r3⟩ := h12 a ha
    obtain ⟨e1, e2, -⟩ := hA _ _ r2 (by decide)
    exact ⟨by rw [m3]; exact r1, e1, fun b hb => by rw [e2]; exact r3 b hb⟩
  · obtain ⟨wl, w1, w2, w3⟩ := h15 o ho
    exact ⟨wl, w1, w2, w3.ext hA⟩
  · obtain ⟨r1, r2⟩ := h18 p hp
    obtain ⟨e1, e2, -⟩ := hA _ _ r1 (by decide)
    exact ⟨e1, fun k hk => by rw [e2]; exact r2 k hk⟩
theorem bN_cAe {S : bS} {N a : Nat} {x : wt_kd} {D : wt_It} (hf : ∀ b, a ≤ b → S.1 b = none) : cAe (bB S D) (bB (bN S N a x) D) := by
  intro b k hb _
  have hb' : S.1 b = some k := hb
  have hne : b ≠ a := fun z => by rw [z, hf a (Nat.le_refl _)] at hb'; cases hb'
  refine ⟨(if_neg hne).trans hb', ?_, ?_⟩
  · show ov (bN S N a x).2.2.1 D S.2.2.2.1 b = ov S.2.2.1 D S.2.2.2.1 b
    unfold ov
    rw [show (bN S N a x).2.2.1 b = S.2.2.1 b from if_neg hne]
  · exact funext fun f => if_neg hne
theorem bM_cAe {S : bS} {N a n k : Nat} {D : wt_It} (hf : ∀ b, a ≤ b → S.1 b = none) : cAe (bB S D) (bB (bM S N a n k) D) := by
  intro b z hb _
  have hb' : S.1 b = some z := hb
  have hlt : b < a := by
    rcases Nat.lt_or_ge b a with y | y
    · exact y
    · rw [hf b y] at hb'; cases hb'
  refine ⟨((if_neg (by omega) : (bM S N a n k).1 b = _).trans (if_neg (by omega))).trans hb', ?_, ?_⟩
  · show ov (bM S N a n k).2.2.1 D S.2.2.2.1 b = ov S.2.2.1 D S.2.2.2.1 b
    unfold ov
    rw [show (bM S N a n k).2.2.1 b = S.2.2.1 b from if_neg (by omega)]
  · exact ((if_neg (by omega) : (bM S N a n k).2.2.2.2.1 b = _).trans (if_neg (by omega)))
/-- new cells are forgotten -/
theorem cz_forget {G : wt_G} {B B' : cB} {H : Heap} (h : ∀ a k, B.1 a = some k → B'.1 a = some k ∧ B'.2.1 a = B.2.1 a ∧ B'.2.2.1 a = B.2.2.1 a ∧ B'.2.2.2 a = B.2.2.2 a) (hz : cz G B' H) : cz G B H := by
  intro a k hk
  obtain ⟨h1, h2, h3, h4⟩ := h a k hk
  have := hz a k h1
  rw [h2, h3, h4] at this
  exact this
theorem bN_forget {G : wt_G} {S : bS} {N a : Nat} {x : wt_kd} {D : wt_It} {H : Heap} (hf : ∀ b, a ≤ b → S.1 b = none) (hz : cz G (bB (bN S N a x) D) H) : cz G (bB S D) H := by
  refine cz_forget (fun b k hb => ?_) hz
  have hb' : S.1 b = some k := hb
  have hne : b ≠ a := fun z => by rw [z, hf a (Nat.le_refl _)] at hb'; cases hb'
  refine ⟨(if_neg hne).trans hb', ?_, funext fun f => if_neg hne, funext fun f => if_neg hne⟩
  show ov (bN S N a x).2.2.1 D S.2.2.2.1 b = ov S.2.2.1 D S.2.2.2.1 b
  unfold ov
  rw [show (bN S N a x).2.2.1 b = S.2.2.1 b from if_neg hne]
theorem bM_forget {G : wt_G} {S : bS} {N a n k : Nat} {D : wt_It} {H : Heap} (hf : ∀ b, a ≤ b → S.1 b = none) (hz : cz G (bB (bM S N a n k) D) H) : cz G (bB S D) H := by
  refine cz_forget (fun b z hb => ?_) hz
  have hb' : S.1 b = some z := hb
  have hlt : b < a := by
    rcases Nat.lt_or_ge b a with y | y
    · exact y
    · rw [hf b y] at hb'; cases hb'
  refine ⟨((if_neg (by omega) : (bM S N a n k).1 b = _).trans (if_neg (by omega))).trans hb', ?_, ((if_neg (by omega) : (bM S N a n k).2.2.2.2.1 b = _).trans (if_neg (by omega))), (if_neg (by omega) : (bM S N a n k).2.2.2.2.2 b = _)⟩
  show ov (bM S N a n k).2.2.1 D S.2.2.2.1 b = ov S.2.2.1 D S.2.2.2.1 b
  unfold ov
  rw [show (bM S N a n k).2.2.1 b = S.2.2.1 b from if_neg (by omega)]
/-- ints of places that are no more told -/
theorem bB_ext {G : wt_G} {S : bS} {N : Nat} {D D' : wt_It} (hE : bE G S N) (h : ∀ j, j < N → D' j = D j) : bB S D' = bB S D := by
  have e : ov S.2.2.1 D' S.2.2.2.1 = ov S.2.2.1 D S.2.2.2.1 := by
    funext a
    unfold ov
    cases hi : S.2.2.1 a with
    | none => rfl
    | some i => exact h i (hE.2.2 a i hi).1
  show (S.1, ov S.2.2.1 D' S.2.2.2.1, S.2.2.2.2.1, S.2.2.2.2.2) = _
  rw [e]
  rfl
theorem cW.ext {S S' : bS} {x : Nat} (h : cW S x) (he : ∀ j, j < 19 → S'.2.1 j = S.2.1 j ∧ S'.1 (S.2.1 j) = S.1 (S.2.1 j) ∧ S'.2.2.2.2.1 (S.2.1 j) = S.2.2.2.2.1 (S.2.1 j)) : cW S' x := by
  unfold cW
  rw [(he 0 (by decide)).1, (he 1 (by decide)).1, (he 2 (by decide)).1, (he 3 (by decide)).1, (he 4 (by decide)).1, (he 5 (by decide)).1, (he 6 (by decide)).1, (he 12 (by decide)).1, (he 18 (by decide)).1, (he 0 (by decide)).2.1, (he 1 (by decide)).2.1, (he 2 (by decide)).2.1, (he 3 (by decide)).2.1, (he 4 (by decide)).2.1, (he 5 (by decide)).2.1, (he 6 (by decide)).2.1, (he 12 (by decide)).2.1, (he 18 (by decide)).2.1, (he 1 (by decide)).2.2, (he 6 (by decide)).2.2, (he 12 (by decide)).2.2]
  refine ⟨h.v, h.n, h.more, h.mice, h.caught, h.next, h.comes, h.leaves, h.soon, fun o ho => ?_, fun o ho => ?_, h.rmore, h.rmice, h.rcaught, h.rnext, h.rcomes, h.rleaves, h.rsoon, h.rx⟩
  · rw [(he (7 + o) (by omega)).1, (he (7 + o) (by omega)).2.1]
    exact ⟨h.ck o ho, h.cr o ho⟩
  · rw [(he (13 + o) (by omega)).1, (he (13 + o) (by omega)).2.1]
    exact ⟨h.lk o ho, h.lr o ho⟩
theorem cW.nn {G : wt_G} {S : bS} {N a x : Nat} {k : wt_kd} (h : cW S x) (hF : bF G S N) (hN : 19 ≤ N) (hf : ∀ b, a ≤ b → S.1 b = none) : cW (bN S N a k) x := by
  refine h.ext (fun j hj => ?_)
  have hne : S.2.1 j ≠ a := fun z => absurd (hF.ne hf (j := j) (by omega)) (by omega)
  exact ⟨bN_old (by omega), if_neg hne, funext fun f => if_neg hne⟩
theorem cW.m {G : wt_G} {S : bS} {N a n k x : Nat} (h : cW S x) (hF : bF G S N) (hN : 19 ≤ N) (hf : ∀ b, a ≤ b → S.1 b = none) : cW (bM S N a n k) x := by
  refine h.ext (fun j hj => ?_)
  have hne := hF.ne hf (j := j) (by omega)
  exact ⟨if_neg (by omega), (if_neg (by omega) : (bM S N a n k).1 (S.2.1 j) = _).trans (if_neg (by omega)), (if_neg (by omega) : (bM S N a n k).2.2.2.2.1 (S.2.1 j) = _).trans (if_neg (by omega))⟩
theorem cYS.ext {S S' : bS} {M : wt_It} {q : Nat → Nat} {ro ow ri ru : Nat} (h : cYS S M q ro ow ri ru) (hA : ∀ D, cAe (bB S D) (bB S' D)) (h0 : S'.2.1 0 = S.2.1 0) : cYS S' M q ro ow ri ru := by
  refine ⟨fun D => (h.1 D).ext (hA D), ?_, h.2.2⟩
  rw [h0, show S'.2.2.2.2.1 (q 0) = S.2.2.2.2.1 (q 0) from (hA d0 _ _ h.kx (by decide)).2.2]
  exact h.2.1
theorem cYS.n {S : bS} {M : wt_It} {q : Nat → Nat} {ro ow ri ru N a : Nat} {k : wt_kd} (h : cYS S M q ro ow ri ru) (hN : 0 < N) (hf : ∀ b, a ≤ b → S.1 b = none) : cYS (bN S N a k) M q ro ow ri ru := h.ext (fun D => bN_cAe hf) (bN_old hN)
theorem cYS.mm {S : bS} {M : wt_It} {q : Nat → Nat} {ro ow ri ru N a n k : Nat} (h : cYS S M q ro ow ri ru) (hN : 0 < N) (hf : ∀ b, a ≤ b → S.1 b = none) : cYS (bM S N a n k) M q ro ow ri ru := h.ext (fun D => bM_cAe hf) (if_neg (by omega))
theorem bN_old_K {S : bS} {N a : Nat} {x : wt_kd} : (bN S N a x).1 a = some x := if_pos rfl
theorem wt_rw_ne {α : Type} {f : Nat → Nat → α} {a k : Nat} {v : α} (h : k ≠ a) : wt_rw f a v k = f k := funext fun _ => if_neg h
section NR
variable {l : Launch} {G : wt_G} {S : bS} {D M Q : wt_It} {NB ro ow ri ru : Nat} {q : Nat → Nat}
theorem ct_X11_rides (hX : cX G) (p : Nat) (hF : bF G S NB) (hN : 19 ≤ NB) (hW : cW S (q 0)) (hY : cYS S M q ro ow ri ru) (hp : p < ri) (hR : cRq D M Q ow) : wt_Ct l G yX11_rides cX11_rides 6 (some .int) 6 2 20 [.ref (S.2.1 1), .ref (q (30 + p))] (cz G (bB S D)) (wt_fn (if (sp_oF 11 0 p (sp_waits Q p 60)).1 = -1 then nI 1000000 else (sp_oF 11 0 p (sp_waits Q p 60)).1) (cz G (bB S D))) := by
  have how := hY.b5
  refine wt_enter [some (.ref (S.2.1 1)), some (.ref (q (30 + p))), none, none, none, none] (by decide +kernel) rfl (Nat.le_of_ble_eq_true rfl) (fun X hc hok => ?_)
  refine wt_bipush (pc := 0) (v := nI 10) hc dX11_rides_0 (by decide) ?_
  refine bz_newi (pc := 2) hF hc dX11_rides_2 (by decide) (by decide) (by decide) (fun a ha hf => ?_)
  have hF1 := bN_F (x := .inr (0, 10)) hF ha hf
  refine wt_astore_2 (pc := 4) hc dX11_rides_4 rfl ?_
  refine wt_bipush (pc := 5) (v := nI 10) hc dX11_rides_5 (by decide) ?_
  refine bz_newi (pc := 7) hF1 hc dX11_rides_7 (by decide) (by decide) (by decide) (fun b hb hg => ?_)
  have hF2 := bN_F (x := .inr (0, 10)) hF1 hb hg
  refine wt_astore_3 (pc := 9) hc dX11_rides_9 rfl ?_
  have hab : a < b := by
    rcases Nat.lt_or_ge a b with z | z
    · exact z
    · exact absurd ((hg a z).symm.trans bN_old_K) (fun y => by cases y)
  have ha2 : ¬ a = b := by omega
  have e1 : (bN (bN S NB a (.inr (0, 10))) (NB + 1) b (.inr (0, 10))).2.1 1 = S.2.1 1 := (bN_old (by omega)).trans (bN_old (by omega))
  have ea : (bN (bN S NB a (.inr (0, 10))) (NB + 1) b (.inr (0, 10))).2.1 NB = a := (bN_old (by omega)).trans bN_new
  have eb : (bN (bN S NB a (.inr (0, 10))) (NB + 1) b (.inr (0, 10))).2.1 (NB + 1) = b := bN_new
  have Kb : (bN (bN S NB a (.inr (0, 10))) (NB + 1) b (.inr (0, 10))).1 b = some (.inr (0, 10)) := bN_old_K
  have Ka : (bN (bN S NB a (.inr (0, 10))) (NB + 1) b (.inr (0, 10))).1 a = some (.inr (0, 10)) := (if_neg ha2).trans bN_old_K
  have hW2 := (hW.nn (k := .inr (0, 10)) hF hN hf).nn (k := .inr (0, 10)) hF1 (by omega) hg
  have hY2 := (hY.n (k := .inr (0, 10)) (N := NB) (by omega) hf).n (k := .inr (0, 10)) (N := NB + 1) (by omega) hg
  have key := cf_rides (D := wt_rw (wt_rw D NB 0) (NB + 1) 0) (Q := Q) hc hX p NB (NB + 1) hok hF2.1 (by omega) (by omega) (by omega) (by omega) (by omega) (by omega) (by rw [ea]; exact Ka) (by rw [eb]; exact Kb) hW2 hY2 hp (hR.d how (fun k hk => (wt_rw_ne (by omega)).trans (wt_rw_ne (by omega)))) (fun D' H hD hz => ?_)
  · rw [e1, ea, eb] at key
    exact wt_less (Nat.zero_le _) (Nat.zero_le _) key
  · have hz1 := bN_forget hf (bN_forget hg hz)
    rw [bB_ext hF.1 (fun j hj => (hD j (by omega) (by omega)).trans ((wt_rw_ne (by omega)).trans (wt_rw_ne (by omega))))] at hz1
    exact hz1
end NR
