/-! CLASSES: a city as it is told, a night: what is seen of them -/
set_option maxRecDepth 100000
abbrev d0 : wt_It := fun _ _ => 0
/-- the city that M tells is there whatever the ints of the bank are -/
def cYS (S : bS) (M : wt_It) (q : Nat → Nat) (ro ow ri ru : Nat) : Prop := (∀ D, cY (bB S D) M q ro ow ri ru) ∧ S.2.2.2.2.1 (q 0) 1 = some (S.2.1 0) ∧ (sp_city M ∧ M 0 1 = nI ro ∧ M 0 3 = nI ow ∧ M 0 4 = nI ri ∧ M 0 5 = nI ru) ∧ ro ≤ 10 ∧ ow ≤ 5 ∧ ri ≤ 8 ∧ ru ≤ 4
section VW
variable {S : bS} {M : wt_It} {q : Nat → Nat} {ro ow ri ru x : Nat}
theorem cYS.kx (h : cYS S M q ro ow ri ru) : S.1 (q 0) = some (.inl 0) := (h.1 d0).1
theorem cYS.xc (h : cYS S M q ro ow ri ru) : S.2.2.2.2.1 (q 0) 0 = some (q 1) := (h.1 d0).2.1
theorem cYS.xv (h : cYS S M q ro ow ri ru) : S.2.2.2.2.1 (q 0) 1 = some (S.2.1 0) := h.2.1
theorem cYS.c (h : cYS S M q ro ow ri ru) : S.1 (q 1) = some (.inl 1) := (h.1 d0).2.2.1
theorem cYS.nro (h : cYS S M q ro ow ri ru) (D : wt_It) : (bB S D).2.1 (q 1) 5 = nI ro := (h.1 D).2.2.2.1.1
theorem cYS.fl (h : cYS S M q ro ow ri ru) (D : wt_It) : (bB S D).2.1 (q 1) 6 = M 0 2 := (h.1 D).2.2.2.1.2.1
theorem cYS.da (h : cYS S M q ro ow ri ru) (D : wt_It) : (bB S D).2.1 (q 1) 7 = M 0 6 := (h.1 D).2.2.2.1.2.2
theorem cYS.cg (h : cYS S M q ro ow ri ru) : S.2.2.2.2.1 (q 1) 0 = some (q 2) := (h.1 d0).2.2.2.2.1.1
theorem cYS.g (h : cYS S M q ro ow ri ru) : S.1 (q 2) = some (.inr (0, 10)) := (h.1 d0).2.2.2.2.1.2.1
theorem cYS.gr (h : cYS S M q ro ow ri ru) (D : wt_It) (r : Nat) (hr : r < ro) : (bB S D).2.1 (q 2) r = M 47 (4 + r) := (h.1 D).2.2.2.2.1.2.2 r hr
theorem cYS.cm (h : cYS S M q ro ow ri ru) : S.2.2.2.2.1 (q 1) 1 = some (q 3) := (h.1 d0).2.2.2.2.2.1.1
theorem cYS.m (h : cYS S M q ro ow ri ru) : S.1 (q 3) = some (.inr (4, 10)) := (h.1 d0).2.2.2.2.2.1.2.1
theorem cYS.mr (h : cYS S M q ro ow ri ru) (a : Nat) (ha : a < 10) : S.2.2.2.2.1 (q 3) a = some (q (10 + a)) := ((h.1 d0).2.2.2.2.2.1.2.2 a ha).1
theorem cYS.mk (h : cYS S M q ro ow ri ru) (a : Nat) (ha : a < 10) : S.1 (q (10 + a)) = some (.inr (0, 10)) := ((h.1 d0).2.2.2.2.2.1.2.2 a ha).2.1
theorem cYS.mi (h : cYS S M q ro ow ri ru) (D : wt_It) (a b : Nat) (ha : a < 10) (hb : b < 10) : (bB S D).2.1 (q (10 + a)) b = M 7 (10 * a + b) := ((h.1 D).2.2.2.2.2.1.2.2 a ha).2.2 b hb
theorem cYS.co (h : cYS S M q ro ow ri ru) : S.2.2.2.2.1 (q 1) 2 = some (q 4) := (h.1 d0).2.2.2.2.2.2.1.1
theorem cYS.ol (h : cYS S M q ro ow ri ru) (D : wt_It) : cL (bB S D) (q 4) ow (fun o => q (20 + o)) := (h.1 D).2.2.2.2.2.2.1.2.1
theorem cYS.os (h : cYS S M q ro ow ri ru) : S.1 (q 4) = some (.inl 11) := (h.ol d0).1
theorem cYS.wo (h : cYS S M q ro ow ri ru) (o : Nat) (ho : o < ow) {wl : Nat} (e : M 9 o = nI wl) (hw : wl ≤ 8) (D : wt_It) : cO (bB S D) (q (20 + o)) (M 8 o) (M 47 (14 + o)) wl (fun i => M 10 (8 * o + i)) := by
  obtain ⟨wl2, h1, h2, h3⟩ := (h.1 D).2.2.2.2.2.2.1.2.2 o ho
  have e2 : wl2 = wl := (nI_eq (by omega) (by omega)).mp (h2.symm.trans e)
  rw [e2] at h3
  exact h3
theorem cYS.ok (h : cYS S M q ro ow ri ru) (o : Nat) (ho : o < ow) : S.1 (q (20 + o)) = some (.inl 2) := by
  obtain ⟨wl2, h1, h2, h3⟩ := (h.1 d0).2.2.2.2.2.2.1.2.2 o ho
  exact h3.1
theorem cYS.ki (h : cYS S M q ro ow ri ru) (D : wt_It) (o : Nat) (ho : o < ow) : (bB S D).2.1 (q (20 + o)) 0 = M 8 o := by
  obtain ⟨wl2, h1, h2, h3⟩ := (h.1 D).2.2.2.2.2.2.1.2.2 o ho
  exact h3.2.1
theorem cYS.mt (h : cYS S M q ro ow ri ru) (D : wt_It) (o : Nat) (ho : o < ow) : (bB S D).2.1 (q (20 + o)) 1 = M 47 (14 + o) := by
  obtain ⟨wl2, h1, h2, h3⟩ := (h.1 D).2.2.2.2.2.2.1.2.2 o ho
  exact h3.2.2.1
theorem cYS.cr (h : cYS S M q ro ow ri ru) : S.2.2.2.2.1 (q 1) 3 = some (q 5) := (h.1 d0).2.2.2.2.2.2.2.1.1
theorem cYS.rl (h : cYS S M q ro ow ri ru) (D : wt_It) : cL (bB S D) (q 5) ri (fun p => q (30 + p)) := (h.1 D).2.2.2.2.2.2.2.1.2.1
theorem cYS.rs (h : cYS S M q ro ow ri ru) : S.1 (q 5) = some (.inl 11) := (h.rl d0).1
theorem cYS.rk (h : cYS S M q ro ow ri ru) (p : Nat) (hp : p < ri) : S.1 (q (30 + p)) = some (.inr (0, 4)) := ((h.1 d0).2.2.2.2.2.2.2.1.2.2 p hp).1
theorem cYS.rif (h : cYS S M q ro ow ri ru) (D : wt_It) (p k : Nat) (hp : p < ri) (hk : k < 4) : (bB S D).2.1 (q (30 + p)) k = M 11 (4 * p + k) := ((h.1 D).2.2.2.2.2.2.2.1.2.2 p hp).2 k hk
theorem cYS.ch (h : cYS S M q ro ow ri ru) : S.2.2.2.2.1 (q 1) 4 = some (q 6) := (h.1 d0).2.2.2.2.2.2.2.2.1
theorem cYS.hl (h : cYS S M q ro ow ri ru) (D : wt_It) : cL (bB S D) (q 6) ru (fun f => q (40 + f)) := (h.1 D).2.2.2.2.2.2.2.2.2
theorem cYS.hs (h : cYS S M q ro ow ri ru) : S.1 (q 6) = some (.inl 11) := (h.hl d0).1
theorem cYS.city (h : cYS S M q ro ow ri ru) : sp_city M := h.2.2.1.1
theorem cYS.eow (h : cYS S M q ro ow ri ru) : M 0 3 = nI ow := h.2.2.1.2.2.1
theorem cYS.ero (h : cYS S M q ro ow ri ru) : M 0 1 = nI ro := h.2.2.1.2.1
theorem cYS.eri (h : cYS S M q ro ow ri ru) : M 0 4 = nI ri := h.2.2.1.2.2.2.1
theorem cYS.eru (h : cYS S M q ro ow ri ru) : M 0 5 = nI ru := h.2.2.1.2.2.2.2
theorem cYS.b10 (h : cYS S M q ro ow ri ru) : ro ≤ 10 := h.2.2.2.1
theorem cYS.b5 (h : cYS S M q ro ow ri ru) : ow ≤ 5 := h.2.2.2.2.1
theorem cYS.b8 (h : cYS S M q ro ow ri ru) : ri ≤ 8 := h.2.2.2.2.2.1
theorem cYS.b4 (h : cYS S M q ro ow ri ru) : ru ≤ 4 := h.2.2.2.2.2.2
theorem cYS.way (h : cYS S M q ro ow ri ru) (o : Nat) (ho : o < ow) : ∃ wl, wl ≤ 8 ∧ M 9 o = nI wl ∧ ∀ i, i < wl → ∃ r, r < ro ∧ M 10 (8 * o + i) = nI r := by
  obtain ⟨ro', h1, h2, ⟨ow', h3, h4, h5⟩, -⟩ := h.city
  have e1 : ro' = ro := (nI_eq (by omega) (by have := h.b10; omega)).mp (h2.symm.trans h.ero)
  have e2 : ow' = ow := (nI_eq (by omega) (by have := h.b5; omega)).mp (h4.symm.trans h.eow)
  subst e1 e2
  exact h5 o ho
theorem cYS.rid (h : cYS S M q ro ow ri ru) (p : Nat) (hp : p < ri) : (∃ a, a < ro ∧ M 11 (4 * p) = nI a) ∧ ∃ b, b < ro ∧ M 11 (4 * p + 1) = nI b := by
  obtain ⟨ro', h1, h2, -, ri', h3, h4, h5⟩ := h.city
  have e1 : ro' = ro := (nI_eq (by omega) (by have := h.b10; omega)).mp (h2.symm.trans h.ero)
  have e2 : ri' = ri := (nI_eq (by omega) (by have := h.b8; omega)).mp (h4.symm.trans h.eri)
  subst e1 e2
  exact h5 p hp
theorem cW.v (h : cW S x) : S.1 (S.2.1 0) = some (.inr (0, 7)) := h.1
theorem cW.n (h : cW S x) : S.1 (S.2.1 1) = some (.inl 3) := h.2.1
theorem cW.more (h : cW S x) : S.1 (S.2.1 2) = some (.inr (0, 10)) := h.2.2.1
theorem cW.mice (h : cW S x) : S.1 (S.2.1 3) = some (.inr (0, 10)) := h.2.2.2.1
theorem cW.caught (h : cW S x) : S.1 (S.2.1 4) = some (.inr (0, 5)) := h.2.2.2.2.1
theorem cW.next (h : cW S x) : S.1 (S.2.1 5) = some (.inr (0, 5)) := h.2.2.2.2.2.1
theorem cW.comes (h : cW S x) : S.1 (S.2.1 6) = some (.inr (4, 5)) := h.2.2.2.2.2.2.1
theorem cW.leaves (h : cW S x) : S.1 (S.2.1 12) = some (.inr (4, 5)) := h.2.2.2.2.2.2.2.1
theorem cW.soon (h : cW S x) : S.1 (S.2.1 18) = some (.inr (0, 10)) := h.2.2.2.2.2.2.2.2.1
theorem cW.ck (h : cW S x) (o : Nat) (ho : o < 5) : S.1 (S.2.1 (7 + o)) = some (.inr (0, 8)) := (h.2.2.2.2.2.2.2.2.2.1 o ho).1
theorem cW.cr (h : cW S x) (o : Nat) (ho : o < 5) : S.2.2.2.2.1 (S.2.1 6) o = some (S.2.1 (7 + o)) := (h.2.2.2.2.2.2.2.2.2.1 o ho).2
theorem cW.lk (h : cW S x) (o : Nat) (ho : o < 5) : S.1 (S.2.1 (13 + o)) = some (.inr (0, 8)) := (h.2.2.2.2.2.2.2.2.2.2.1 o ho).1
theorem cW.lr (h : cW S x) (o : Nat) (ho : o < 5) : S.2.2.2.2.1 (S.2.1 12) o = some (S.2.1 (13 + o)) := (h.2.2.2.2.2.2.2.2.2.2.1 o ho).2
theorem cW.rmore (h : cW S x) : S.2.2.2.2.1 (S.2.1 1) 4 = some (S.2.1 2) := h.2.2.2.2.2.2.2.2.2.2.2.1
theorem cW.rmice (h : cW S x) : S.2.2.2.2.1 (S.2.1 1) 5 = some (S.2.1 3) := h.2.2.2.2.2.2.2.2.2.2.2.2.1
theorem cW.rcaught (h : cW S x) : S.2.2.2.2.1 (S.2.1 1) 6 = some (S.2.1 4) := h.2.2.2.2.2.2.2.2.2.2.2.2.2.1
theorem cW.rnext (h : cW S x) : S.2.2.2.2.1 (S.2.1 1) 7 = some (S.2.1 5) := h.2.2.2.2.2.2.2.2.2.2.2.2.2.2.1
theorem cW.rcomes (h : cW S x) : S.2.2.2.2.1 (S.2.1 1) 8 = some (S.2.1 6) := h.2.2.2.2.2.2.2.2.2.2.2.2.2.2.2.1
theorem cW.rleaves (h : cW S x) : S.2.2.2.2.1 (S.2.1 1) 9 = some (S.2.1 12) := h.2.2.2.2.2.2.2.2.2.2.2.2.2.2.2.2.1
theorem cW.rsoon (h : cW S x) : S.2.2.2.2.1 (S.2.1 1) 10 = some (S.2.1 18) := h.2.2.2.2.2.2.2.2.2.2.2.2.2.2.2.2.2.1
theorem cW.rx (h : cW S x) : S.2.2.2.2.1 (S.2.1 1) 11 = some x := h.2.2.2.2.2.2.2.2.2.2.2.2.2.2.2.2.2.2
end VW
section GL
variable {l : Launch} {G : wt_G} {B : cB}
theorem ct_gL {a c i : Nat} {e : Nat → Nat} (hL : cL B a c e) (hi : i < c) : wt_Ct l G yJ2_get cJ2_get 2 (some (.object "java/lang/Object")) 3 0 0 [.ref a, .int (nI i)] (cz G B) (wt_fr (e i) (cz G B)) := by
  obtain ⟨h1, h2, d, n, h3, h4, h5, h6, h7⟩ := hL
  exact ct_J2_get a d n c i (e i) h1 h3 h4 h2 hi h5 h6 (h7 i hi)
theorem ct_sL {a c : Nat} {e : Nat → Nat} (hL : cL B a c e) : wt_Ct l G yJ2_size cJ2_size 1 (some .int) 1 0 0 [.ref a] (cz G B) (wt_fn (nI c) (cz G B)) := ct_J2_size a c hL.1 hL.2.1
end GL
/-- static fields: what a run carries of them -/
def cSt (G : wt_G) : Prop := (∀ s : State, wt_Sx G s s.heap → va_Z "java/util/ArrayList" "DEFAULTCAPACITY_EMPTY_ELEMENTDATA" "[Ljava/lang/Object;" (.ref (G.2.2.2.1 0)) (fun q => G.1 ≤ q) s s.heap) ∧ (∀ s : State, wt_Sx G s s.heap → va_Z "java/util/ArrayList" "EMPTY_ELEMENTDATA" "[Ljava/lang/Object;" (.ref (G.2.2.2.1 1)) (fun q => G.1 ≤ q) s s.heap) ∧ (∀ s : State, wt_Sx G s s.heap → va_Z "java/lang/Integer$IntegerCache" "cache" "[Ljava/lang/Integer;" (.ref (G.2.2.2.1 2)) (fun q => G.1 ≤ q) s s.heap) ∧ (∀ s : State, wt_Sx G s s.heap → va_Z "java/lang/String" "COMPACT_STRINGS" "Z" (.int (nI 1)) (fun q => G.1 ≤ q) s s.heap) ∧ (∀ s : State, wt_Sx G s s.heap → va_Z "java/lang/Integer$IntegerCache" "high" "I" (.int (nI 127)) (fun q => G.1 ≤ q) s s.heap) ∧ ∃ f : Option Nat, (∀ s : State, wt_Sx G s s.heap → va_Z "jdk/internal/util/Preconditions" "SIOOBE_FORMATTER" "Ljava/util/function/BiFunction;" (va_rf f) (fun q => G.1 ≤ q) s s.heap)
theorem cSt.e0 {G : wt_G} (h : cSt G) : ∀ s : State, wt_Sx G s s.heap → va_Z "java/util/ArrayList" "DEFAULTCAPACITY_EMPTY_ELEMENTDATA" "[Ljava/lang/Object;" (.ref (G.2.2.2.1 0)) (fun q => G.1 ≤ q) s s.heap := h.1
theorem cSt.e1 {G : wt_G} (h : cSt G) : ∀ s : State, wt_Sx G s s.heap → va_Z "java/util/ArrayList" "EMPTY_ELEMENTDATA" "[Ljava/lang/Object;" (.ref (G.2.2.2.1 1)) (fun q => G.1 ≤ q) s s.heap := h.2.1
theorem cSt.ic {G : wt_G} (h : cSt G) : ∀ s : State, wt_Sx G s s.heap → va_Z "java/lang/Integer$IntegerCache" "cache" "[Ljava/lang/Integer;" (.ref (G.2.2.2.1 2)) (fun q => G.1 ≤ q) s s.heap := h.2.2.1
theorem cSt.cs {G : wt_G} (h : cSt G) : ∀ s : State, wt_Sx G s s.heap → va_Z "java/lang/String" "COMPACT_STRINGS" "Z" (.int (nI 1)) (fun q => G.1 ≤ q) s s.heap := h.2.2.2.1
theorem cSt.hi {G : wt_G} (h : cSt G) : ∀ s : State, wt_Sx G s s.heap → va_Z "java/lang/Integer$IntegerCache" "high" "I" (.int (nI 127)) (fun q => G.1 ≤ q) s s.heap := h.2.2.2.2.1
theorem cSt.sf {G : wt_G} (h : cSt G) : ∃ f : Option Nat, (∀ s : State, wt_Sx G s s.heap → va_Z "jdk/internal/util/Preconditions" "SIOOBE_FORMATTER" "Ljava/util/function/BiFunction;" (va_rf f) (fun q => G.1 ≤ q) s s.heap) := h.2.2.2.2.2
section GS
variable {l : Launch} {G : wt_G} {X : wt_X} {y : MethodName} {cc : ByteArray} {nL fr pc : Nat} {L : List (Option Value)} {st : List Value} {Z : Heap → Prop} {kc ks : Nat}
/-- a static field -/
theorem cv_gets {idx : Nat} {C n d : String} {v : Value} (hc : wt_Cx l G X y cc nL fr) (hZ0 : ∀ s : State, wt_Sx G s s.heap → va_Z C n d v (fun q => G.1 ≤ q) s s.heap) (dd : decode cc pc = .ok (.getstatic idx, 3)) (q : Cond.fieldLink y.cls idx C n d ∈ lw_all)
    (kk : wt_V G X (pc + 3) L (v :: st) Z kc ks) : wt_V G X pc L st Z kc ks := by
  obtain ⟨p, l', e, Rm, s, m, args, below, meth, c, Q⟩ := X
  obtain ⟨rfl, hx, hbb, hown, hts, hml, hlk, hnm, hf1, hf2, hn0, hSx⟩ := hc
  intro H locs cells slots ls hZ hS hcl hsl hl
  exact va_gets hx hbb (hZ0 s hSx) hS hown (hts _ q) (fun _ h => h) dd (kk H locs cells slots ls hZ hS hcl hsl hl)
end GS
