/-! CLASSES: forms of rules -/
set_option maxRecDepth 100000
/-- the reference's act for a sign -/
def cf_op (c : Nat) : Nat := if c = 43 then 8 else if c = 45 then 9 else if c = 42 then 10 else if c = 47 then 11 else if c = 60 then 6 else if c = 61 then 7 else if c = 38 then 4 else 5
def cf_sg (c : Nat) : Prop := c = 43 ∨ c = 45 ∨ c = 42 ∨ c = 47 ∨ c = 60 ∨ c = 61 ∨ c = 38 ∨ c = 124
def cf_fold (f : Nat → (Nat → Int32) → Int32) (sg : Nat → Nat) (v : Nat → Int32) : Nat → Int32
  | 0 => f 0 v
  | k + 1 => sp_works (nI (cf_op (sg k))) (cf_fold f sg v k) (f (k + 1) v)
/-- a StringBuilder at a holds the n signs c -/
def cSb (B : cB) (a n : Nat) (c : Nat → Nat) : Prop := B.1 a = some (.inl 13) ∧ B.2.1 a 1 = nI 0 ∧ B.2.1 a 3 = nI n ∧ ∃ d m, B.2.2.1 a 0 = some d ∧ B.1 d = some (.inr (1, m)) ∧ n ≤ m ∧ m < 2 ^ 31 ∧ ∀ i, i < n → c i < 128 ∧ B.2.1 d i = nI (c i)
/-- the form at a reckons as φ does -/
def cFo (B : cB) : Nat → Nat → ((Nat → Int32) → Int32) → Prop
  | 0, _, _ => False
  | n + 1, a, φ => (B.1 a = some (.inl 8) ∧ ∀ v, φ v = B.2.1 a 0) ∨ (B.1 a = some (.inl 9) ∧ ∃ w, w < 7 ∧ B.2.1 a 0 = nI w ∧ ∀ v, φ v = v w) ∨ (B.1 a = some (.inl 10) ∧ ∃ b ψ, B.2.2.1 a 0 = some b ∧ cFo B n b ψ ∧ ∀ v, φ v = sp_b (ψ v = 0)) ∨ (B.1 a = some (.inl 7) ∧ ∃ lst c e sb sg f, B.2.2.1 a 0 = some lst ∧ cL B lst (c + 1) e ∧ B.2.2.1 a 1 = some sb ∧ cSb B sb c sg ∧ (∀ i, i < c → cf_sg (sg i)) ∧ (∀ i, i < c + 1 → cFo B n (e i) (f i)) ∧ c + 1 < 2 ^ 31 ∧ ∀ v, φ v = cf_fold f sg v c)
theorem cFo_ext {B : cB} {v v' : Nat → Int32} (hv : ∀ j, j < 7 → v j = v' j) : ∀ n a φ, cFo B n a φ → φ v = φ v' := by
  intro n
  induction n with
  | zero => intro a φ h; exact h.elim
  | succ n ih =>
    intro a φ h
    rcases h with ⟨-, h⟩ | ⟨-, w, hw, -, h⟩ | ⟨-, b, ψ, -, hb, h⟩ | ⟨-, lst, c, e, sb, sg, f, -, -, -, -, -, hf, -, h⟩
    · rw [h, h]
    · rw [h, h, hv w hw]
    · rw [h, h, ih b ψ hb]
    · rw [h, h]
      have : ∀ k, k < c + 1 → cf_fold f sg v k = cf_fold f sg v' k := by
        intro k
        induction k with
        | zero => intro hk; exact ih _ _ (hf 0 hk)
        | succ k ihk => intro hk; rw [cf_fold, cf_fold, ihk (by omega), ih _ _ (hf (k + 1) hk)]
      exact this c (by omega)
theorem cf_shr0 (m : Nat) : nI m >>> (nI 0 &&& 31) = nI m := by
  rw [show (nI 0 &&& 31 : Int32) = 0 from by decide]
  exact Int32.shiftRight_zero
theorem cf_min {a b : Nat} (h : a ≤ b) (hb : b < 2 ^ 31) : (if nI b < nI a then nI b else nI a) = nI a := if_neg (Int32.not_lt.mpr (nI_le h (by omega)))
theorem cf_ch {x : Nat} (h : x < 128) : ((nI x &&& nI 255).toUInt32 % 65536).toInt32 = nI x := by
  have : ∀ x : Fin 128, ((nI x.val &&& nI 255).toUInt32 % 65536).toInt32 = nI x.val := by decide +kernel
  exact this ⟨x, h⟩
theorem cf_chn {x : Nat} (h : x < 128) : narrow .char (.int (nI x)) = .int (nI x) := by
  have : ∀ x : Fin 128, narrow .char (.int (nI x.val)) = .int (nI x.val) := by decide +kernel
  exact this ⟨x, h⟩
section FO
variable {l : Launch} {G : wt_G} {Z : Heap → Prop} {B : cB}
theorem ct_J11_checkIndexR (i n b : Nat) (hin : i < n) (hn : n < 2 ^ 31) : wt_Ct l G yJ11_checkIndex cJ11_checkIndex 3 (some .int) 1 0 0 [.int (nI i), .int (nI n), .ref b] Z (wt_fn (nI i) Z) := by
  refine wt_enter [some (.int (nI i)), some (.int (nI n)), some (.ref b)] (by decide +kernel) rfl (Nat.le_of_ble_eq_true rfl) (fun X hc hok => ?_)
  refine wt_iload_0 (pc := 0) hc dJ11_checkIndex_0 ?_
  refine wt_if_lt (pc := 1) 9 hc dJ11_checkIndex_1 (by decide) (fun c_1 => ?_) (fun c_1 => ?_)
  · exact absurd c_1 (Int32.not_lt.mpr (nI_pos' (by omega)))
  · refine wt_iload_0 (pc := 4) hc dJ11_checkIndex_4 ?_
    refine wt_iload_1 (pc := 5) hc dJ11_checkIndex_5 ?_
    refine wt_nicmp_lt (pc := 6) 16 (i) (n) hc dJ11_checkIndex_6 (by decide) (by omega) (by omega) (fun c_6 => ?_) (fun c_6 => ?_)
    · refine wt_iload_0 (pc := 16) hc dJ11_checkIndex_16 ?_
      exact wt_iret (pc := 17) hc hok dJ11_checkIndex_17 (rfl) (fun H hZ => ⟨rfl, hZ⟩)
    · omega
theorem ct_J11_checkIndexF (i n : Nat) (f : Option Nat) (hin : i < n) (hn : n < 2 ^ 31) : wt_Ct l G yJ11_checkIndex cJ11_checkIndex 3 (some .int) 1 0 0 [.int (nI i), .int (nI n), va_rf f] Z (wt_fn (nI i) Z) := by
  cases f with
  | none => exact ct_J11_checkIndex i n .null hin hn
  | some b => exact ct_J11_checkIndexR i n b hin hn
theorem ct_J8_checkIndex (hSt : cSt G) (i n : Nat) (hin : i < n) (hn : n < 2 ^ 31) : wt_Ct l G yJ8_checkIndex cJ8_checkIndex 2 none 2 0 0 [.int (nI i), .int (nI n)] Z (wt_pv Z) := by
  obtain ⟨f, hf⟩ := hSt.sf
  refine wt_enter [some (.int (nI i)), some (.int (nI n))] (by decide +kernel) rfl (Nat.le_of_ble_eq_true rfl) (fun X hc hok => ?_)
  refine wt_iload_0 (pc := 0) hc dJ8_checkIndex_0 ?_
  refine wt_iload_1 (pc := 1) hc dJ8_checkIndex_1 ?_
  refine cv_gets (pc := 2) hc (hf) dJ8_checkIndex_2 q618 ?_
  refine wt_gofn (wt_invS (pc := 5) 3 hc (ct_J11_checkIndexF i n f hin hn) dJ8_checkIndex_5 rfl q620 q412 q126 q413 (by decide +kernel) rfl (by first | decide | omega) (by decide) (Nat.le_of_ble_eq_true rfl) rfl) ?_
  refine wt_pop (pc := 8) hc dJ8_checkIndex_8 rfl ?_
  exact wt_vret (pc := 9) hc hok dJ8_checkIndex_9 (fun H hZ => ⟨rfl, hZ⟩)
theorem ct_J18_charAt (hSt : cSt G) (a i n : Nat) (c : Nat → Nat) (hs : cSb B a n c) (hi : i < n) : wt_Ct l G yJ18_charAt cJ18_charAt 5 (some .char) 3 0 0 [.ref a, .int (nI i)] (cz G B) (wt_fn (nI (c i)) (cz G B)) := by
  obtain ⟨h1, h2, h3, d, m, h4, h5, h6, h7, h8⟩ := hs
  refine wt_enter [some (.ref a), some (.int (nI i)), none, none, none] (by decide +kernel) rfl (Nat.le_of_ble_eq_true rfl) (fun X hc hok => ?_)
  refine wt_aload_0 (pc := 0) hc dJ18_charAt_0 ?_
  refine cv_geti (pc := 1) 1 (nI 0) hc cP13 (h1) dJ18_charAt_1 q1180 (by decide) (Or.inl rfl) (fun _ _ _ => rfl) (h2) ?_
  refine wt_istore_2 (pc := 4) hc dJ18_charAt_4 rfl ?_
  refine wt_aload_0 (pc := 5) hc dJ18_charAt_5 ?_
  refine cv_getr (pc := 6) (b := d) 0 hc cP13 (h1) dJ18_charAt_6 q1179 (by decide) (Or.inl rfl) (fun _ _ _ => rfl) (h4) ?_
  refine wt_astore_3 (pc := 9) hc dJ18_charAt_9 rfl ?_
  refine wt_aload_0 (pc := 10) hc dJ18_charAt_10 ?_
  refine cv_geti (pc := 11) 3 (nI n) hc cP13 (h1) dJ18_charAt_11 q1181 (by decide) (Or.inl rfl) (fun _ _ _ => rfl) (h3) ?_
  refine wt_aload_3 (pc := 14) hc dJ18_charAt_14 ?_
  refine cv_alen (pc := 15) hc (h5) dJ18_charAt_15 ?_
  refine wt_iload_2 (pc := 16) hc dJ18_charAt_16 ?_
  refine wt_ishr (pc := 17) hc dJ18_charAt_17 ?_
  refine wt_topi (z := nI m) (cf_shr0 m) ?_
  refine cv_mmin (pc := 18) hc dJ18_charAt_18 q614 q392 q122 q393 (by decide) (Nat.le_of_ble_eq_true rfl) rfl ?_
  refine wt_topi (z := nI n) (cf_min h6 h7) ?_
  refine wt_istore_4 (pc := 21) hc dJ18_charAt_21 rfl ?_
  refine wt_iload_1 (pc := 23) hc dJ18_charAt_23 ?_
  refine wt_iload_4 (pc := 24) hc dJ18_charAt_24 ?_
  refine wt_gov (wt_invS (pc := 26) 2 hc (ct_J8_checkIndex hSt i n hi (by omega)) dJ18_charAt_26 rfl q615 q616 q123 q617 (by decide +kernel) rfl (by first | decide | omega) (by decide) (Nat.le_of_ble_eq_true rfl) rfl) (Nat.zero_le _) (Nat.zero_le _) ?_
  refine wt_iload_2 (pc := 29) hc dJ18_charAt_29 ?_
  refine wt_if_ne (pc := 30) 42 hc dJ18_charAt_30 (by decide) (fun z => absurd z (by decide)) (fun _ => ?_)
  refine wt_aload_3 (pc := 33) hc dJ18_charAt_33 ?_
  refine wt_iload_1 (pc := 34) hc dJ18_charAt_34 ?_
  refine cv_bald (pc := 35) (i) (nI (c i)) hc (h5) dJ18_charAt_35 (rfl) (by omega) (by omega) ((h8 i hi).2) ?_
  refine wt_sipush (pc := 36) (v := nI 255) hc dJ18_charAt_36 (by decide) ?_
  refine wt_iand (pc := 39) hc dJ18_charAt_39 ?_
  refine wt_i2c (pc := 40) hc dJ18_charAt_40 ?_
  refine wt_topi (z := nI (c i)) (cf_ch (h8 i hi).1) ?_
  exact wt_iret (pc := 41) hc hok dJ18_charAt_41 (cf_chn (h8 i hi).1) (fun H hZ => ⟨rfl, hZ⟩)
theorem ct_J19_charAt (hSt : cSt G) (a i n : Nat) (c : Nat → Nat) (hs : cSb B a n c) (hi : i < n) (hc : c i < 128) : wt_Ct l G yJ19_charAt cJ19_charAt 2 (some .char) 4 0 0 [.ref a, .int (nI i)] (cz G B) (wt_fn (nI (c i)) (cz G B)) := by
  have hc1 := hc
  refine wt_enter [some (.ref a), some (.int (nI i))] (by decide +kernel) rfl (Nat.le_of_ble_eq_true rfl) (fun X hc hok => ?_)
  refine wt_aload_0 (pc := 0) hc dJ19_charAt_0 ?_
  refine wt_iload_1 (pc := 1) hc dJ19_charAt_1 ?_
  refine wt_gofn (wt_invU (pc := 2) 1 hc cP13 (hs.1) (ct_J18_charAt hSt a i n c hs hi) dJ19_charAt_2 rfl q610 q2267 q611 q612 q140 q613 (by decide +kernel) rfl (by first | decide | omega) (by decide) (Nat.le_of_ble_eq_true rfl) rfl) ?_
  exact wt_iret (pc := 5) hc hok dJ19_charAt_5 (cf_chn hc1) (fun H hZ => ⟨rfl, hZ⟩)
theorem ct_X7_by (c : Nat) (a b : Int32) (hc0 : cf_sg c) : wt_Ct l G yX7_by cX7_by 3 (some .int) 1 0 0 [.int (nI c), .int a, .int b] Z (wt_fn (sp_works (nI (cf_op c)) a b) Z) := by
  refine wt_enter [some (.int (nI c)), some (.int a), some (.int b)] (by decide +kernel) rfl (Nat.le_of_ble_eq_true rfl) (fun X hc hok => ?_)
  refine wt_iload_0 (pc := 0) hc dX7_by_0 ?_
  rcases hc0 with rfl | rfl | rfl | rfl | rfl | rfl | rfl | rfl
  · refine sp_tableIn (pc := 1) 112 43 38 hc dX7_by_1 (by decide) rfl (by decide) (by decide) rfl (by decide) ?_
    refine wt_iload_1 (pc := 112) hc dX7_by_112 ?_
    refine wt_iload_2 (pc := 113) hc dX7_by_113 ?_
    refine wt_iadd (pc := 114) hc dX7_by_114 ?_
    exact wt_iret (pc := 115) hc hok dX7_by_115 (rfl) (fun H hZ => ⟨rfl, hZ⟩)
  · refine sp_tableIn (pc := 1) 116 45 38 hc dX7_by_1 (by decide) rfl (by decide) (by decide) rfl (by decide) ?_
    refine wt_iload_1 (pc := 116) hc dX7_by_116 ?_
    refine wt_iload_2 (pc := 117) hc dX7_by_117 ?_
    refine wt_isub (pc := 118) hc dX7_by_118 ?_
    exact wt_iret (pc := 119) hc hok dX7_by_119 (rfl) (fun H hZ => ⟨rfl, hZ⟩)
  · refine sp_tableIn (pc := 1) 120 42 38 hc dX7_by_1 (by decide) rfl (by decide) (by decide) rfl (by decide) ?_
    refine wt_iload_1 (pc := 120) hc dX7_by_120 ?_
    refine wt_iload_2 (pc := 121) hc dX7_by_121 ?_
    refine wt_imul (pc := 122) hc dX7_by_122 ?_
    exact wt_iret (pc := 123) hc hok dX7_by_123 (rfl) (fun H hZ => ⟨rfl, hZ⟩)
  · refine sp_tableIn (pc := 1) 124 47 38 hc dX7_by_1 (by decide) rfl (by decide) (by decide) rfl (by decide) ?_
    refine wt_iload_2 (pc := 124) hc dX7_by_124 ?_
    refine wt_if_ne (pc := 125) 132 hc dX7_by_125 (by decide) (fun c_125 => ?_) (fun c_125 => ?_)
    · refine wt_iload_1 (pc := 132) hc dX7_by_132 ?_
      refine wt_iload_2 (pc := 133) hc dX7_by_133 ?_
      refine wt_idiv (pc := 134) hc dX7_by_134 (c_125) ?_
      exact wt_iret (pc := 135) hc hok dX7_by_135 (rfl) (fun H hZ => ⟨by rw [show sp_works (nI (cf_op 47)) a b = if b = 0 then 0 else a / b from rfl]; simp [c_125] <;> rfl, hZ⟩)
    · refine wt_iconst (pc := 128) (v := nI 0) hc dX7_by_128 (by decide) ?_
      refine wt_goto (pc := 129) 135 hc dX7_by_129 (by decide) ?_
      exact wt_iret (pc := 135) hc hok dX7_by_135 (rfl) (fun H hZ => ⟨by rw [show sp_works (nI (cf_op 47)) a b = if b = 0 then 0 else a / b from rfl]; simp [c_125] <;> rfl, hZ⟩)
  · refine sp_tableIn (pc := 1) 136 60 38 hc dX7_by_1 (by decide) rfl (by decide) (by decide) rfl (by decide) ?_
    refine wt_iload_1 (pc := 136) hc dX7_by_136 ?_
    refine wt_iload_2 (pc := 137) hc dX7_by_137 ?_
    refine wt_icmp_ge (pc := 138) 145 hc dX7_by_138 (by decide) (fun c_138 => ?_) (fun c_138 => ?_)
    · refine wt_iconst (pc := 145) (v := nI 0) hc dX7_by_145 (by decide) ?_
      exact wt_iret (pc := 146) hc hok dX7_by_146 (rfl) (fun H hZ => by first | exact sp_fnT (c := a < b) (Int32.not_le.mp c_138) hZ | exact sp_fnF (c := a < b) (Int32.not_lt.mpr c_138) hZ)
    · refine wt_iconst (pc := 141) (v := nI 1) hc dX7_by_141 (by decide) ?_
      refine wt_goto (pc := 142) 146 hc dX7_by_142 (by decide) ?_
      exact wt_iret (pc := 146) hc hok dX7_by_146 (rfl) (fun H hZ => by first | exact sp_fnT (c := a < b) (Int32.not_le.mp c_138) hZ | exact sp_fnF (c := a < b) (Int32.not_lt.mpr c_138) hZ)
  · refine sp_tableIn (pc := 1) 147 61 38 hc dX7_by_1 (by decide) rfl (by decide) (by decide) rfl (by decide) ?_
    refine wt_iload_1 (pc := 147) hc dX7_by_147 ?_
    refine wt_iload_2 (pc := 148) hc dX7_by_148 ?_
    refine wt_icmp_ne (pc := 149) 156 hc dX7_by_149 (by decide) (fun c_149 => ?_) (fun c_149 => ?_)
    · refine wt_iconst (pc := 156) (v := nI 0) hc dX7_by_156 (by decide) ?_
      exact wt_iret (pc := 157) hc hok dX7_by_157 (rfl) (fun H hZ => by first | exact sp_fnT (c := a = b) c_149 hZ | exact sp_fnF (c := a = b) c_149 hZ)
    · refine wt_iconst (pc := 152) (v := nI 1) hc dX7_by_152 (by decide) ?_
      refine wt_goto (pc := 153) 157 hc dX7_by_153 (by decide) ?_
      exact wt_iret (pc := 157) hc hok dX7_by_157 (rfl) (fun H hZ => by first | exact sp_fnT (c := a = b) c_149 hZ | exact sp_fnF (c := a = b) c_149 hZ)
  · refine sp_tableIn (pc := 1) 158 38 38 hc dX7_by_1 (by decide) rfl (by decide) (by decide) rfl (by decide) ?_
    refine wt_iload_1 (pc := 158) hc dX7_by_158 ?_
    refine wt_if_eq (pc := 159) 170 hc dX7_by_159 (by decide) (fun c_159 => ?_) (fun c_159 => ?_)
    · refine wt_iconst (pc := 170) (v := nI 0) hc dX7_by_170 (by decide) ?_
      exact wt_iret (pc := 171) hc hok dX7_by_171 (rfl) (fun H hZ => by first | exact sp_fnT (c := ¬ a = 0 ∧ ¬ b = 0) ⟨c_159, c_163⟩ hZ | exact sp_fnF (c := ¬ a = 0 ∧ ¬ b = 0) (fun z => z.2 c_163) hZ | exact sp_fnF (c := ¬ a = 0 ∧ ¬ b = 0) (fun z => z.1 c_159) hZ)
    · refine wt_iload_2 (pc := 162) hc dX7_by_162 ?_
      refine wt_if_eq (pc := 163) 170 hc dX7_by_163 (by decide) (fun c_163 => ?_) (fun c_163 => ?_)
      · refine wt_iconst (pc := 170) (v := nI 0) hc dX7_by_170 (by decide) ?_
        exact wt_iret (pc := 171) hc hok dX7_by_171 (rfl) (fun H hZ => by first | exact sp_fnT (c := ¬ a = 0 ∧ ¬ b = 0) ⟨c_159, c_163⟩ hZ | exact sp_fnF (c := ¬ a = 0 ∧ ¬ b = 0) (fun z => z.2 c_163) hZ | exact sp_fnF (c := ¬ a = 0 ∧ ¬ b = 0) (fun z => z.1 c_159) hZ)
      · refine wt_iconst (pc := 166) (v := nI 1) hc dX7_by_166 (by decide) ?_
        refine wt_goto (pc := 167) 171 hc dX7_by_167 (by decide) ?_
        exact wt_iret (pc := 171) hc hok dX7_by_171 (rfl) (fun H hZ => by first | exact sp_fnT (c := ¬ a = 0 ∧ ¬ b = 0) ⟨c_159, c_163⟩ hZ | exact sp_fnF (c := ¬ a = 0 ∧ ¬ b = 0) (fun z => z.2 c_163) hZ | exact sp_fnF (c := ¬ a = 0 ∧ ¬ b = 0) (fun z => z.1 c_159) hZ)
  · refine wt_tableOut (pc := 1) 172 hc dX7_by_1 (Or.inr (by decide)) (by decide) ?_
    refine wt_iload_1 (pc := 172) hc dX7_by_172 ?_
    refine wt_if_ne (pc := 173) 180 hc dX7_by_173 (by decide) (fun c_173 => ?_) (fun c_173 => ?_)
    · refine wt_iconst (pc := 180) (v := nI 1) hc dX7_by_180 (by decide) ?_
      refine wt_goto (pc := 181) 185 hc dX7_by_181 (by decide) ?_
      exact wt_iret (pc := 185) hc hok dX7_by_185 (rfl) (fun H hZ => by first | exact sp_fnT (c := ¬ a = 0 ∨ ¬ b = 0) (Or.inl c_173) hZ | exact sp_fnT (c := ¬ a = 0 ∨ ¬ b = 0) (Or.inr c_177) hZ | exact sp_fnF (c := ¬ a = 0 ∨ ¬ b = 0) (fun z => z.elim (fun q => q c_173) (fun q => q c_177)) hZ)
    · refine wt_iload_2 (pc := 176) hc dX7_by_176 ?_
      refine wt_if_eq (pc := 177) 184 hc dX7_by_177 (by decide) (fun c_177 => ?_) (fun c_177 => ?_)
      · refine wt_iconst (pc := 184) (v := nI 0) hc dX7_by_184 (by decide) ?_
        exact wt_iret (pc := 185) hc hok dX7_by_185 (rfl) (fun H hZ => by first | exact sp_fnT (c := ¬ a = 0 ∨ ¬ b = 0) (Or.inl c_173) hZ | exact sp_fnT (c := ¬ a = 0 ∨ ¬ b = 0) (Or.inr c_177) hZ | exact sp_fnF (c := ¬ a = 0 ∨ ¬ b = 0) (fun z => z.elim (fun q => q c_173) (fun q => q c_177)) hZ)
      · refine wt_iconst (pc := 180) (v := nI 1) hc dX7_by_180 (by decide) ?_
        refine wt_goto (pc := 181) 185 hc dX7_by_181 (by decide) ?_
        exact wt_iret (pc := 185) hc hok dX7_by_185 (rfl) (fun H hZ => by first | exact sp_fnT (c := ¬ a = 0 ∨ ¬ b = 0) (Or.inl c_173) hZ | exact sp_fnT (c := ¬ a = 0 ∨ ¬ b = 0) (Or.inr c_177) hZ | exact sp_fnF (c := ¬ a = 0 ∨ ¬ b = 0) (fun z => z.elim (fun q => q c_173) (fun q => q c_177)) hZ)
theorem ct_X8_of (a v lv : Nat) (hK : B.1 a = some (.inl 8)) : wt_Ct l G yX8_of cX8_of 2 (some .int) lv 0 0 [.ref a, .ref v] (cz G B) (wt_fn (B.2.1 a 0) (cz G B)) := by
  refine wt_enter [some (.ref a), some (.ref v)] (by decide +kernel) rfl (Nat.le_of_ble_eq_true rfl) (fun X hc hok => ?_)
  refine wt_aload_0 (pc := 0) hc dX8_of_0 ?_
  refine cv_geti (pc := 1) 0 _ hc cP8 (hK) dX8_of_1 q1135 (by decide) (Or.inl rfl) (fun _ _ _ => rfl) (rfl) ?_
  exact wt_iret (pc := 4) hc hok dX8_of_4 (rfl) (fun H hZ => ⟨rfl, hZ⟩)
theorem ct_X9_of (a v w lv : Nat) (hK : B.1 a = some (.inl 9)) (hv : B.1 v = some (.inr (0, 7))) (hw : w < 7) (ew : B.2.1 a 0 = nI w) : wt_Ct l G yX9_of cX9_of 2 (some .int) lv 0 0 [.ref a, .ref v] (cz G B) (wt_fn (B.2.1 v w) (cz G B)) := by
  refine wt_enter [some (.ref a), some (.ref v)] (by decide +kernel) rfl (Nat.le_of_ble_eq_true rfl) (fun X hc hok => ?_)
  refine wt_aload_1 (pc := 0) hc dX9_of_0 ?_
  refine wt_aload_0 (pc := 1) hc dX9_of_1 ?_
  refine cv_geti (pc := 2) 0 (nI w) hc cP9 (hK) dX9_of_2 q1152 (by decide) (Or.inl rfl) (fun _ _ _ => rfl) (ew) ?_
  refine cv_iald (pc := 5) (w) _ hc (hv) dX9_of_5 (rfl) (by omega) (by omega) (rfl) ?_
  exact wt_iret (pc := 6) hc hok dX9_of_6 (rfl) (fun H hZ => ⟨rfl, hZ⟩)
/-- a form's method, whatever form it is -/
def cOf (l : Launch) (G : wt_G) (B : cB) (lv a v : Nat) (r : Int32) : Prop := (B.1 a = some (.inl 8) ∧ wt_Ct l G yX8_of cX8_of 2 (some .int) lv 0 0 [.ref a, .ref v] (cz G B) (wt_fn r (cz G B))) ∨ (B.1 a = some (.inl 9) ∧ wt_Ct l G yX9_of cX9_of 2 (some .int) lv 0 0 [.ref a, .ref v] (cz G B) (wt_fn r (cz G B))) ∨ (B.1 a = some (.inl 10) ∧ wt_Ct l G yX10_of cX10_of 2 (some .int) lv 0 0 [.ref a, .ref v] (cz G B) (wt_fn r (cz G B))) ∨ (B.1 a = some (.inl 7) ∧ wt_Ct l G yX7_of cX7_of 4 (some .int) lv 0 0 [.ref a, .ref v] (cz G B) (wt_fn r (cz G B)))
theorem cf_call {X : wt_X} {y : MethodName} {cc : ByteArray} {nL fr pc : Nat} {L : List (Option Value)} {st : List Value} {kc ks lv a v idx : Nat} {r : Int32} (hX : cX G) (hc : wt_Cx l G X y cc nL fr) (ho : cOf l G B lv a v r) (d : decode cc pc = .ok (.invokeinterface idx 2, 5)) (q1 : Cond.methodLink y.cls idx ⟨"WingTrams$Form", "of", "([I)I"⟩ ∈ lw_all) (hfr : lv < fr) (hw : (st.map fun v => v.category).sum ≤ 8) (hL : L.length = nL) (kk : wt_V G X (pc + 5) L (.int r :: st) (cz G B) kc ks) : wt_V G X pc L (.ref v :: .ref a :: st) (cz G B) kc ks := by
  rcases ho with ⟨hK, hM⟩ | ⟨hK, hM⟩ | ⟨hK, hM⟩ | ⟨hK, hM⟩
  · exact wt_gofn (wt_invF (pc := pc) 1 hc cP8 hK hM d rfl q1 q593 q595 q138 q597 hX.F_X8_of (by decide +kernel) rfl hfr (by decide) hw hL) kk
  · exact wt_gofn (wt_invF (pc := pc) 1 hc cP9 hK hM d rfl q1 q599 q601 q139 q603 hX.F_X9_of (by decide +kernel) rfl hfr (by decide) hw hL) kk
  · exact wt_gofn (wt_invF (pc := pc) 1 hc cP10 hK hM d rfl q1 q585 q587 q142 q589 hX.F_X10_of (by decide +kernel) rfl hfr (by decide) hw hL) kk
  · exact wt_gofn (wt_invF (pc := pc) 1 hc cP7 hK hM d rfl q1 q574 q576 q137 q578 hX.F_X7_of (by decide +kernel) rfl hfr (by decide) hw hL) kk
theorem cf_cast {X : wt_X} {y : MethodName} {cc : ByteArray} {nL fr pc : Nat} {L : List (Option Value)} {st : List Value} {kc ks lv a v idx : Nat} {r : Int32} (hc : wt_Cx l G X y cc nL fr) (ho : cOf l G B lv a v r) (d : decode cc pc = .ok (.checkcast idx, 3)) (q : Cond.classLink y.cls idx "WingTrams$Form" ∈ lw_all) (kk : wt_V G X (pc + 3) L (.ref a :: st) (cz G B) kc ks) : wt_V G X pc L (.ref a :: st) (cz G B) kc ks := by
  rcases ho with ⟨hK, -⟩ | ⟨hK, -⟩ | ⟨hK, -⟩ | ⟨hK, -⟩
  · exact cv_cast (pc := pc) hc hK d q q592 kk
  · exact cv_cast (pc := pc) hc hK d q q598 kk
  · exact cv_cast (pc := pc) hc hK d q q584 kk
  · exact cv_cast (pc := pc) hc hK d q q573 kk
theorem ct_X10_of (hX : cX G) (a v b lv : Nat) (r : Int32) (hK : B.1 a = some (.inl 10)) (rb : B.2.2.1 a 0 = some b) (ho : cOf l G B lv b v r) : wt_Ct l G yX10_of cX10_of 2 (some .int) (lv + 1) 0 0 [.ref a, .ref v] (cz G B) (wt_fn (sp_b (r = 0)) (cz G B)) := by
  refine wt_enter [some (.ref a), some (.ref v)] (by decide +kernel) rfl (Nat.le_of_ble_eq_true rfl) (fun X hc hok => ?_)
  refine wt_aload_0 (pc := 0) hc dX10_of_0 ?_
  refine cv_getr (pc := 1) (b := b) 0 hc cP10 (hK) dX10_of_1 q1277 (by decide) (Or.inl rfl) (fun _ _ _ => rfl) (rb) ?_
  refine wt_aload_1 (pc := 4) hc dX10_of_4 ?_
  refine cf_call (pc := 5) hX hc (ho) dX10_of_5 q591 (by omega) (Nat.le_of_ble_eq_true rfl) rfl ?_
  refine wt_if_ne (pc := 10) 17 hc dX10_of_10 (by decide) (fun c_10 => ?_) (fun c_10 => ?_)
  · refine wt_iconst (pc := 17) (v := nI 0) hc dX10_of_17 (by decide) ?_
    exact wt_iret (pc := 18) hc hok dX10_of_18 (rfl) (fun H hZ => by first | exact sp_fnT c_10 hZ | exact sp_fnF c_10 hZ)
  · refine wt_iconst (pc := 13) (v := nI 1) hc dX10_of_13 (by decide) ?_
    refine wt_goto (pc := 14) 18 hc dX10_of_14 (by decide) ?_
    exact wt_iret (pc := 18) hc hok dX10_of_18 (rfl) (fun H hZ => by first | exact sp_fnT c_10 hZ | exact sp_fnF c_10 hZ)
theorem ct_X7_of (hX : cX G) (hSt : cSt G) (a v n lst c sb : Nat) (e sg : Nat → Nat) (f : Nat → Int32) (g : Nat → Int32) (hK : B.1 a = some (.inl 7)) (r1 : B.2.2.1 a 0 = some lst) (hL : cL B lst (c + 1) e) (r2 : B.2.2.1 a 1 = some sb) (hs : cSb B sb c sg) (hsg : ∀ i, i < c → cf_sg (sg i)) (hb : c + 1 < 2 ^ 31) (IH : ∀ i, i < c + 1 → cOf l G B (n + 8) (e i) v (f i)) (g0 : g 0 = f 0) (gs : ∀ k, g (k + 1) = sp_works (nI (cf_op (sg k))) (g k) (f (k + 1))) : wt_Ct l G yX7_of cX7_of 4 (some .int) (n + 1 + 8) 0 0 [.ref a, .ref v] (cz G B) (wt_fn (g c) (cz G B)) := by
  have hs8 : ∀ i, i < c → sg i < 128 := fun i hi => by
    obtain ⟨-, -, -, d, m, -, -, -, -, h⟩ := hs
    exact (h i hi).1
  refine wt_enter [some (.ref a), some (.ref v), none, none] (by decide +kernel) rfl (Nat.le_of_ble_eq_true rfl) (fun X hc hok => ?_)
  have loop : ∀ m k, k ≤ c → c - k < m → wt_V G X 22 [some (.ref a), some (.ref v), some (.int (g k)), some (.int (nI (k + 1)))] [] (cz G B) 0 0 := by
    intro m
    induction m with
    | zero => intro k _ h; omega
    | succ m ih =>
      intro k hk hm
      refine wt_iload_3 (pc := 22) hc dX7_of_22 ?_
      refine wt_aload_0 (pc := 23) hc dX7_of_23 ?_
      refine cv_getr (pc := 24) (b := lst) 0 hc cP7 (hK) dX7_of_24 q1192 (by decide) (Or.inl rfl) (fun _ _ _ => rfl) (r1) ?_
      refine wt_gofn (wt_invF (pc := 27) 0 hc cP11 (hL.1) (ct_sL hL) dX7_of_27 rfl q605 q318 q320 q115 q322 (hX.F_J2_size) (by decide +kernel) rfl (by first | decide | omega) (by decide) (Nat.le_of_ble_eq_true rfl) rfl) ?_
      refine wt_nicmp_ge (pc := 32) 75 (k + 1) (c + 1) hc dX7_of_32 (by decide) (by omega) (by omega) (fun c_32 => ?_) (fun c_32 => ?_)
      · refine wt_iload_2 (pc := 75) hc dX7_of_75 ?_
        exact wt_iret (pc := 76) hc hok dX7_of_76 (rfl) (fun H hZ => ⟨by (have e : k = c := by omega); subst e; rfl, hZ⟩)
      · refine wt_aload_0 (pc := 35) hc dX7_of_35 ?_
        refine cv_getr (pc := 36) (b := sb) 1 hc cP7 (hK) dX7_of_36 q1193 (by decide) (Or.inl rfl) (fun _ _ _ => rfl) (r2) ?_
        refine wt_iload_3 (pc := 39) hc dX7_of_39 ?_
        refine wt_iconst (pc := 40) (v := nI 1) hc dX7_of_40 (by decide) ?_
        refine wt_isub (pc := 41) hc dX7_of_41 ?_
        rw [show nI (k + 1) - nI 1 = nI k from nI_pred k]
        refine wt_gofn (wt_invV (pc := 42) 1 hc (ct_J19_charAt hSt sb k c sg hs (by omega) (hs8 k (by omega))) dX7_of_42 rfl (fun s H => cz_recv cP13 (hs.1) s H) q606 q607 q608 q141 q609 (by decide +kernel) rfl (by first | decide | omega) (by decide) (Nat.le_of_ble_eq_true rfl) rfl) ?_
        refine wt_iload_2 (pc := 45) hc dX7_of_45 ?_
        refine wt_aload_0 (pc := 46) hc dX7_of_46 ?_
        refine cv_getr (pc := 47) (b := lst) 0 hc cP7 (hK) dX7_of_47 q1192 (by decide) (Or.inl rfl) (fun _ _ _ => rfl) (r1) ?_
        refine wt_iload_3 (pc := 50) hc dX7_of_50 ?_
        refine wt_gofr (wt_invF (pc := 51) 1 hc cP11 (hL.1) (ct_gL hL (by omega)) dX7_of_51 rfl q580 q449 q451 q115 q453 (hX.F_J2_get) (by decide +kernel) rfl (by first | decide | omega) (by decide) (Nat.le_of_ble_eq_true rfl) rfl) ?_
        refine cf_cast (pc := 56) hc (IH (k + 1) (by omega)) dX7_of_56 q581 ?_
        refine wt_aload_1 (pc := 59) hc dX7_of_59 ?_
        refine cf_call (pc := 60) hX hc (IH (k + 1) (by omega)) dX7_of_60 q583 (by omega) (Nat.le_of_ble_eq_true rfl) rfl ?_
        refine wt_gofn (wt_invS (pc := 65) 3 hc (ct_X7_by (sg k) _ _ (hsg k (by omega))) dX7_of_65 rfl q633 q634 q137 q635 (by decide +kernel) rfl (by first | decide | omega) (by decide) (Nat.le_of_ble_eq_true rfl) rfl) ?_
        rw [← gs k]
        refine wt_istore_2 (pc := 68) hc dX7_of_68 rfl ?_
        refine wt_iinc_3 (pc := 69) (v := nI (k + 1 + 1)) hc dX7_of_69 (nI_add (k + 1) 1) rfl ?_
        refine wt_goto (pc := 72) 22 hc dX7_of_72 (by decide) ?_
        exact ih (k + 1) (by omega) (by omega)
  refine wt_aload_0 (pc := 0) hc dX7_of_0 ?_
  refine cv_getr (pc := 1) (b := lst) 0 hc cP7 (hK) dX7_of_1 q1192 (by decide) (Or.inl rfl) (fun _ _ _ => rfl) (r1) ?_
  refine wt_iconst (pc := 4) (v := nI 0) hc dX7_of_4 (by decide) ?_
  refine wt_gofr (wt_invF (pc := 5) 1 hc cP11 (hL.1) (ct_gL hL (by omega)) dX7_of_5 rfl q580 q449 q451 q115 q453 (hX.F_J2_get) (by decide +kernel) rfl (by first | decide | omega) (by decide) (Nat.le_of_ble_eq_true rfl) rfl) ?_
  refine cf_cast (pc := 10) hc (IH 0 (by omega)) dX7_of_10 q581 ?_
  refine wt_aload_1 (pc := 13) hc dX7_of_13 ?_
  refine cf_call (pc := 14) hX hc (IH 0 (by omega)) dX7_of_14 q583 (by omega) (Nat.le_of_ble_eq_true rfl) rfl ?_
  rw [← g0]
  refine wt_istore_2 (pc := 19) hc dX7_of_19 rfl ?_
  refine wt_iconst (pc := 20) (v := nI 1) hc dX7_of_20 (by decide) ?_
  refine wt_istore_3 (pc := 21) hc dX7_of_21 rfl ?_
  exact loop (c + 1) 0 (by omega) (by omega)
theorem cf_of (hX : cX G) (hSt : cSt G) {v : Nat} (hv : B.1 v = some (.inr (0, 7))) : ∀ n a φ, cFo B n a φ → cOf l G B (n + 8) a v (φ (B.2.1 v)) := by
  intro n
  induction n with
  | zero => intro a φ h; exact h.elim
  | succ n ih =>
    intro a φ h
    rcases h with ⟨hK, h⟩ | ⟨hK, w, hw, ew, h⟩ | ⟨hK, b, ψ, rb, hb, h⟩ | ⟨hK, lst, c, e, sb, sg, f, r1, hL, r2, hs, hsg, hf, hcc, h⟩
    · rw [h]; exact Or.inl ⟨hK, ct_X8_of a v _ hK⟩
    · rw [h]; exact Or.inr (Or.inl ⟨hK, ct_X9_of a v w _ hK hv hw ew⟩)
    · rw [h]; exact Or.inr (Or.inr (Or.inl ⟨hK, ct_X10_of hX a v b (n + 8) _ hK rb (ih b ψ hb)⟩))
    · rw [h]; exact Or.inr (Or.inr (Or.inr ⟨hK, ct_X7_of hX hSt a v n lst c sb e sg (fun i => f i (B.2.1 v)) (fun k => cf_fold f sg (B.2.1 v) k) hK r1 hL r2 hs hsg hcc (fun i hi => ih (e i) (f i) (hf i hi)) rfl (fun k => rfl)⟩))
end FO
