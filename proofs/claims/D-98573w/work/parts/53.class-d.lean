/-! CLASS ENGINE: references told -/
set_option maxRecDepth 100000
/-- an answer that is a known reference -/
def wt_fr (r : Nat) (Z : Heap → Prop) : Option Value → Heap → Prop := fun v H => v = some (.ref r) ∧ Z H
section CD
variable {l : Launch} {G : wt_G} {X : wt_X} {y : MethodName} {cc : ByteArray} {nL fr pc : Nat} {L : List (Option Value)} {st : List Value} {B : cB} {kc ks : Nat} {Z Z' : Heap → Prop}
theorem wt_gofr {len : Nat} {st0 rest : List Value} {r : Nat} (hr : wt_Run G X pc len L st0 rest Z (wt_fr r Z') 0 0) (k : wt_V G X (pc + len) L (.ref r :: rest) Z' kc ks) : wt_V G X pc L st0 Z kc ks := by
  obtain ⟨p, l', e, Rm, s, m, args, below, meth, c, Q⟩ := X
  intro H locs cells slots ls hZ hS hcl hsl hl TT hT XX
  obtain ⟨v, T', L', X', hS', ⟨rfl, hp⟩, st⟩ := hr H locs cells slots ls hZ hS (by omega) (by omega) hl TT hT XX
  obtain ⟨t2, a1, b1⟩ := k T'.heap (locs ++ L') (cells + 0) (slots + 0) ls hp hS' hcl hsl hl T' rfl X'
  exact ⟨t2, st t2 a1, b1⟩
theorem cv_getr {idx a ci N b : Nat} {ref C : String} {T : u_T} (k : Nat) (hc : wt_Cx l G X y cc nL fr) (hP : cP ci C T N) (hK : B.1 a = some (.inl ci)) (d : decode cc pc = .ok (.getfield idx, 3)) (q : Cond.fieldLink y.cls idx ref (T k).2.1 (T k).2.2.1 ∈ lw_all) (hk : k < N) (hd : wt_sf ref (T k)) (ht : ∀ i r j, wt_fv (wt_ft ci k) i r j = va_rf r) (hv : B.2.2.1 a k = some b)
    (kk : wt_V G X (pc + 3) L (.ref b :: st) (cz G B) kc ks) : wt_V G X pc L (.ref a :: st) (cz G B) kc ks := cv_get k (.ref b) hc hP hK d q hk hd (by rw [ht, hv]; rfl) kk
theorem cv_getrN {idx a ci N b : Nat} {ref C host : String} {T : u_T} (k : Nat) (hc : wt_Cx l G X y cc nL fr) (hP : cP ci C T N) (hK : B.1 a = some (.inl ci)) (d : decode cc pc = .ok (.getfield idx, 3)) (q : Cond.fieldLinkNest y.cls idx ref (T k).2.1 (T k).2.2.1 host ∈ lw_tbl) (hk : k < N) (hd : wt_sf ref (T k)) (ht : ∀ i r j, wt_fv (wt_ft ci k) i r j = va_rf r) (hv : B.2.2.1 a k = some b)
    (kk : wt_V G X (pc + 3) L (.ref b :: st) (cz G B) kc ks) : wt_V G X pc L (.ref a :: st) (cz G B) kc ks := cv_getN k (.ref b) hc hP hK d q hk hd (by rw [ht, hv]; rfl) kk
theorem cv_geti {idx a ci N : Nat} {ref C : String} {T : u_T} (k : Nat) (v : Int32) (hc : wt_Cx l G X y cc nL fr) (hP : cP ci C T N) (hK : B.1 a = some (.inl ci)) (d : decode cc pc = .ok (.getfield idx, 3)) (q : Cond.fieldLink y.cls idx ref (T k).2.1 (T k).2.2.1 ∈ lw_all) (hk : k < N) (hd : wt_sf ref (T k)) (ht : ∀ i r j, wt_fv (wt_ft ci k) i r j = .int i) (hv : B.2.1 a k = v)
    (kk : wt_V G X (pc + 3) L (.int v :: st) (cz G B) kc ks) : wt_V G X pc L (.ref a :: st) (cz G B) kc ks := cv_get k (.int v) hc hP hK d q hk hd (by rw [ht, hv]) kk
theorem cv_getiN {idx a ci N : Nat} {ref C host : String} {T : u_T} (k : Nat) (v : Int32) (hc : wt_Cx l G X y cc nL fr) (hP : cP ci C T N) (hK : B.1 a = some (.inl ci)) (d : decode cc pc = .ok (.getfield idx, 3)) (q : Cond.fieldLinkNest y.cls idx ref (T k).2.1 (T k).2.2.1 host ∈ lw_tbl) (hk : k < N) (hd : wt_sf ref (T k)) (ht : ∀ i r j, wt_fv (wt_ft ci k) i r j = .int i) (hv : B.2.1 a k = v)
    (kk : wt_V G X (pc + 3) L (.int v :: st) (cz G B) kc ks) : wt_V G X pc L (.ref a :: st) (cz G B) kc ks := cv_getN k (.int v) hc hP hK d q hk hd (by rw [ht, hv]) kk
theorem cv_aaldr {a t n b : Nat} {i : Int32} (j : Nat) (hc : wt_Cx l G X y cc nL fr) (hK : B.1 a = some (.inr (t, n))) (ht : 4 ≤ t) (d : decode cc pc = .ok (.aaload, 1)) (hi : i = nI j) (hj : j < n) (hs : n < 2 ^ 31) (hv : B.2.2.1 a j = some b)
    (kk : wt_V G X (pc + 1) L (.ref b :: st) (cz G B) kc ks) : wt_V G X pc L (.int i :: .ref a :: st) (cz G B) kc ks := cv_aald j (some b) hc hK ht d hi hj hs hv kk
theorem cv_mmin {idx : Nat} {x z : Int32} (hc : wt_Cx l G X y cc nL fr) (d : decode cc pc = .ok (.invokestatic idx, 3)) (q1 : Cond.methodLink y.cls idx Lib.Math.min.name ∈ lw_all) (q2 : Cond.static Lib.Math.min.name ∈ lw_all) (q3 : Cond.initialized "java/lang/Math" ∈ lw_all) (q4 : Cond.code Lib.Math.min.name Lib.Math.min.code 2 (some .int) ∈ lw_all) (hfr : 1 ≤ fr) (hw : (st.map fun v => v.category).sum ≤ 8) (hL : L.length = nL)
    (kk : wt_V G X (pc + 3) L (.int (if z < x then z else x) :: st) Z kc ks) : wt_V G X pc L (.int z :: .int x :: st) Z kc ks := by
  obtain ⟨p, l', e, Rm, s, m, args, below, meth, c, Q⟩ := X
  obtain ⟨rfl, hx, hbb, hown, hts, hml, hlk, hnm, hf1, hf2, hn0, hSx⟩ := hc
  intro H locs cells slots ls hZ hS hcl hsl hl
  exact va_mmin hx hbb (by rw [hml, hl.1, hL]) hown (hts _ q1) (hts _ q2) (hts _ q3) (hts _ q4) (by omega) (by omega) (by omega) (by omega) d (kk H locs cells slots ls hZ hS hcl hsl hl)
theorem cv_mmax {idx : Nat} {x z : Int32} (hc : wt_Cx l G X y cc nL fr) (d : decode cc pc = .ok (.invokestatic idx, 3)) (q1 : Cond.methodLink y.cls idx Lib.Math.max.name ∈ lw_all) (q2 : Cond.static Lib.Math.max.name ∈ lw_all) (q3 : Cond.initialized "java/lang/Math" ∈ lw_all) (q4 : Cond.code Lib.Math.max.name Lib.Math.max.code 2 (some .int) ∈ lw_all) (hfr : 1 ≤ fr) (hw : (st.map fun v => v.category).sum ≤ 8) (hL : L.length = nL)
    (kk : wt_V G X (pc + 3) L (.int (if x < z then z else x) :: st) Z kc ks) : wt_V G X pc L (.int z :: .int x :: st) Z kc ks := by
  obtain ⟨p, l', e, Rm, s, m, args, below, meth, c, Q⟩ := X
  obtain ⟨rfl, hx, hbb, hown, hts, hml, hlk, hnm, hf1, hf2, hn0, hSx⟩ := hc
  intro H locs cells slots ls hZ hS hcl hsl hl
  exact va_mmax hx hbb (by rw [hml, hl.1, hL]) hown (hts _ q1) (hts _ q2) (hts _ q3) (hts _ q4) (by omega) (by omega) (by omega) (by omega) d (kk H locs cells slots ls hZ hS hcl hsl hl)
theorem cv_mabs {idx : Nat} {x : Int32} (hc : wt_Cx l G X y cc nL fr) (d : decode cc pc = .ok (.invokestatic idx, 3)) (q1 : Cond.methodLink y.cls idx Lib.Math.abs.name ∈ lw_all) (q2 : Cond.static Lib.Math.abs.name ∈ lw_all) (q3 : Cond.initialized "java/lang/Math" ∈ lw_all) (q4 : Cond.code Lib.Math.abs.name Lib.Math.abs.code 1 (some .int) ∈ lw_all) (hfr : 1 ≤ fr) (hw : (st.map fun v => v.category).sum ≤ 8) (hL : L.length = nL)
    (kk : wt_V G X (pc + 3) L (.int (if 0 ≤ x then x else 0 - x) :: st) Z kc ks) : wt_V G X pc L (.int x :: st) Z kc ks := by
  obtain ⟨p, l', e, Rm, s, m, args, below, meth, c, Q⟩ := X
  obtain ⟨rfl, hx, hbb, hown, hts, hml, hlk, hnm, hf1, hf2, hn0, hSx⟩ := hc
  intro H locs cells slots ls hZ hS hcl hsl hl
  exact va_mabs hx hbb (by rw [hml, hl.1, hL]) hown (hts _ q1) (hts _ q2) (hts _ q3) (hts _ q4) (by omega) (by omega) (by omega) (by omega) d (kk H locs cells slots ls hZ hS hcl hsl hl)
theorem cv_obj {idx a : Nat} (hc : wt_Cx l G X y cc nL fr) (d : decode cc pc = .ok (.invokespecial idx, 3)) (q1 : Cond.methodLink y.cls idx Lib.objectInit ∈ lw_all) (q2 : Cond.instanceMethod Lib.objectInit ∈ lw_all) (q3 : Cond.code Lib.objectInit ⟨#[0xb1]⟩ 1 none ∈ lw_all) (hfr : 1 ≤ fr) (hw : (st.map fun v => v.category).sum ≤ 8) (hL : L.length = nL)
    (kk : wt_V G X (pc + 3) L st Z kc ks) : wt_V G X pc L (.ref a :: st) Z kc ks := by
  obtain ⟨p, l', e, Rm, s, m, args, below, meth, c, Q⟩ := X
  obtain ⟨rfl, hx, hbb, hown, hts, hml, hlk, hnm, hf1, hf2, hn0, hSx⟩ := hc
  intro H locs cells slots ls hZ hS hcl hsl hl
  exact W.objInit hx hbb hown (hts _ q1) (hts _ q2) (hts _ q3) (g := F0 m pc ls (.ref a :: st)) rfl (by show ls.size = _; rw [hml, hl.1, hL]) rfl d (by omega) (by show 2 * 0 + _ + 12 ≤ _; omega) (kk H locs cells slots ls hZ hS hcl hsl hl)
end CD
