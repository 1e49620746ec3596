/-! ENGINE: the instructions that leave the heap alone (printed by gen/rules.py) -/
set_option maxRecDepth 100000
section WTI
variable {l : Launch} {G : wt_G} {X : wt_X} {y : MethodName} {cc : ByteArray} {nL fr : Nat} {st : List Value} {Z : Heap → Prop} {kc ks : Nat}
theorem wt_iconst {L : List (Option Value)} {pc : Nat} {n : Int} {v : Int32} (hc : wt_Cx l G X y cc nL fr) (d : decode cc pc = .ok (.iconst n, 1)) (hv : Int32.ofInt n = v) (k : wt_V G X (pc + 1) L (.int v :: st) Z kc ks) : wt_V G X pc L (st) Z kc ks := by
  obtain ⟨p, l', e, Rm, s, m, args, below, meth, c, Q⟩ := X
  obtain ⟨-, hx, hb, hown, hts, -⟩ := hc
  exact fun H locs cells slots ls hZ hS hcl hsl hl => lv_iconst hx hb d hv (k H locs cells slots ls hZ hS hcl hsl hl)
theorem wt_bipush {L : List (Option Value)} {pc : Nat} {n : Int} {v : Int32} (hc : wt_Cx l G X y cc nL fr) (d : decode cc pc = .ok (.bipush n, 2)) (hv : (Int8.ofInt n).toInt32 = v) (k : wt_V G X (pc + 2) L (.int v :: st) Z kc ks) : wt_V G X pc L (st) Z kc ks := by
  obtain ⟨p, l', e, Rm, s, m, args, below, meth, c, Q⟩ := X
  obtain ⟨-, hx, hb, hown, hts, -⟩ := hc
  exact fun H locs cells slots ls hZ hS hcl hsl hl => lv_bipush hx hb d hv (k H locs cells slots ls hZ hS hcl hsl hl)
theorem wt_sipush {L : List (Option Value)} {pc : Nat} {n : Int} {v : Int32} (hc : wt_Cx l G X y cc nL fr) (d : decode cc pc = .ok (.sipush n, 3)) (hv : (Int16.ofInt n).toInt32 = v) (k : wt_V G X (pc + 3) L (.int v :: st) Z kc ks) : wt_V G X pc L (st) Z kc ks := by
  obtain ⟨p, l', e, Rm, s, m, args, below, meth, c, Q⟩ := X
  obtain ⟨-, hx, hb, hown, hts, -⟩ := hc
  exact fun H locs cells slots ls hZ hS hcl hsl hl => lv_sipush hx hb d hv (k H locs cells slots ls hZ hS hcl hsl hl)
theorem wt_lconst {L : List (Option Value)} {pc : Nat} {n : Fin 2} {v : Int64} (hc : wt_Cx l G X y cc nL fr) (d : decode cc pc = .ok (.lconst n, 1)) (hv : Int64.ofNat (n : Nat) = v) (k : wt_V G X (pc + 1) L (.long v :: st) Z kc ks) : wt_V G X pc L (st) Z kc ks := by
  obtain ⟨p, l', e, Rm, s, m, args, below, meth, c, Q⟩ := X
  obtain ⟨-, hx, hb, hown, hts, -⟩ := hc
  exact fun H locs cells slots ls hZ hS hcl hsl hl => lv_lconst hx hb d hv (k H locs cells slots ls hZ hS hcl hsl hl)
theorem wt_null {L : List (Option Value)} {pc : Nat} (hc : wt_Cx l G X y cc nL fr) (d : decode cc pc = .ok (.aconst_null, 1)) (k : wt_V G X (pc + 1) L (.null :: st) Z kc ks) : wt_V G X pc L (st) Z kc ks := by
  obtain ⟨p, l', e, Rm, s, m, args, below, meth, c, Q⟩ := X
  obtain ⟨-, hx, hb, hown, hts, -⟩ := hc
  exact fun H locs cells slots ls hZ hS hcl hsl hl => lv_null hx hb d (k H locs cells slots ls hZ hS hcl hsl hl)
theorem wt_iadd {L : List (Option Value)} {pc : Nat} {x z : Int32} (hc : wt_Cx l G X y cc nL fr) (d : decode cc pc = .ok (.iadd, 1)) (k : wt_V G X (pc + 1) L (.int (x + z) :: st) Z kc ks) : wt_V G X pc L (.int z :: .int x :: st) Z kc ks := by
  obtain ⟨p, l', e, Rm, s, m, args, below, meth, c, Q⟩ := X
  obtain ⟨-, hx, hb, hown, hts, -⟩ := hc
  exact fun H locs cells slots ls hZ hS hcl hsl hl => lv_iadd hx hb d (k H locs cells slots ls hZ hS hcl hsl hl)
theorem wt_isub {L : List (Option Value)} {pc : Nat} {x z : Int32} (hc : wt_Cx l G X y cc nL fr) (d : decode cc pc = .ok (.isub, 1)) (k : wt_V G X (pc + 1) L (.int (x - z) :: st) Z kc ks) : wt_V G X pc L (.int z :: .int x :: st) Z kc ks := by
  obtain ⟨p, l', e, Rm, s, m, args, below, meth, c, Q⟩ := X
  obtain ⟨-, hx, hb, hown, hts, -⟩ := hc
  exact fun H locs cells slots ls hZ hS hcl hsl hl => lv_isub hx hb d (k H locs cells slots ls hZ hS hcl hsl hl)
theorem wt_imul {L : List (Option Value)} {pc : Nat} {x z : Int32} (hc : wt_Cx l G X y cc nL fr) (d : decode cc pc = .ok (.imul, 1)) (k : wt_V G X (pc + 1) L (.int (x * z) :: st) Z kc ks) : wt_V G X pc L (.int z :: .int x :: st) Z kc ks := by
  obtain ⟨p, l', e, Rm, s, m, args, below, meth, c, Q⟩ := X
  obtain ⟨-, hx, hb, hown, hts, -⟩ := hc
  exact fun H locs cells slots ls hZ hS hcl hsl hl => lv_imul hx hb d (k H locs cells slots ls hZ hS hcl hsl hl)
theorem wt_iand {L : List (Option Value)} {pc : Nat} {x z : Int32} (hc : wt_Cx l G X y cc nL fr) (d : decode cc pc = .ok (.iand, 1)) (k : wt_V G X (pc + 1) L (.int (x &&& z) :: st) Z kc ks) : wt_V G X pc L (.int z :: .int x :: st) Z kc ks := by
  obtain ⟨p, l', e, Rm, s, m, args, below, meth, c, Q⟩ := X
  obtain ⟨-, hx, hb, hown, hts, -⟩ := hc
  exact fun H locs cells slots ls hZ hS hcl hsl hl => lv_iand hx hb d (k H locs cells slots ls hZ hS hcl hsl hl)
theorem wt_ior {L : List (Option Value)} {pc : Nat} {x z : Int32} (hc : wt_Cx l G X y cc nL fr) (d : decode cc pc = .ok (.ior, 1)) (k : wt_V G X (pc + 1) L (.int (x ||| z) :: st) Z kc ks) : wt_V G X pc L (.int z :: .int x :: st) Z kc ks := by
  obtain ⟨p, l', e, Rm, s, m, args, below, meth, c, Q⟩ := X
  obtain ⟨-, hx, hb, hown, hts, -⟩ := hc
  exact fun H locs cells slots ls hZ hS hcl hsl hl => lv_ior hx hb d (k H locs cells slots ls hZ hS hcl hsl hl)
theorem wt_ixor {L : List (Option Value)} {pc : Nat} {x z : Int32} (hc : wt_Cx l G X y cc nL fr) (d : decode cc pc = .ok (.ixor, 1)) (k : wt_V G X (pc + 1) L (.int (x ^^^ z) :: st) Z kc ks) : wt_V G X pc L (.int z :: .int x :: st) Z kc ks := by
  obtain ⟨p, l', e, Rm, s, m, args, below, meth, c, Q⟩ := X
  obtain ⟨-, hx, hb, hown, hts, -⟩ := hc
  exact fun H locs cells slots ls hZ hS hcl hsl hl => lv_ixor hx hb d (k H locs cells slots ls hZ hS hcl hsl hl)
theorem wt_ishl {L : List (Option Value)} {pc : Nat} {x z : Int32} (hc : wt_Cx l G X y cc nL fr) (d : decode cc pc = .ok (.ishl, 1)) (k : wt_V G X (pc + 1) L (.int (x <<< (z &&& 31)) :: st) Z kc ks) : wt_V G X pc L (.int z :: .int x :: st) Z kc ks := by
  obtain ⟨p, l', e, Rm, s, m, args, below, meth, c, Q⟩ := X
  obtain ⟨-, hx, hb, hown, hts, -⟩ := hc
  exact fun H locs cells slots ls hZ hS hcl hsl hl => lv_ishl hx hb d (k H locs cells slots ls hZ hS hcl hsl hl)
theorem wt_ishr {L : List (Option Value)} {pc : Nat} {x z : Int32} (hc : wt_Cx l G X y cc nL fr) (d : decode cc pc = .ok (.ishr, 1)) (k : wt_V G X (pc + 1) L (.int (x >>> (z &&& 31)) :: st) Z kc ks) : wt_V G X pc L (.int z :: .int x :: st) Z kc ks := by
  obtain ⟨p, l', e, Rm, s, m, args, below, meth, c, Q⟩ := X
  obtain ⟨-, hx, hb, hown, hts, -⟩ := hc
  exact fun H locs cells slots ls hZ hS hcl hsl hl => lv_ishr hx hb d (k H locs cells slots ls hZ hS hcl hsl hl)
theorem wt_idiv {L : List (Option Value)} {pc : Nat} {x z : Int32} (hc : wt_Cx l G X y cc nL fr) (d : decode cc pc = .ok (.idiv, 1)) (hz : ¬ z = 0) (k : wt_V G X (pc + 1) L (.int (x / z) :: st) Z kc ks) : wt_V G X pc L (.int z :: .int x :: st) Z kc ks := by
  obtain ⟨p, l', e, Rm, s, m, args, below, meth, c, Q⟩ := X
  obtain ⟨-, hx, hb, hown, hts, -⟩ := hc
  exact fun H locs cells slots ls hZ hS hcl hsl hl => lv_idiv hx hb d hz (k H locs cells slots ls hZ hS hcl hsl hl)
theorem wt_irem {L : List (Option Value)} {pc : Nat} {x z : Int32} (hc : wt_Cx l G X y cc nL fr) (d : decode cc pc = .ok (.irem, 1)) (hz : ¬ z = 0) (k : wt_V G X (pc + 1) L (.int (x - x / z * z) :: st) Z kc ks) : wt_V G X pc L (.int z :: .int x :: st) Z kc ks := by
  obtain ⟨p, l', e, Rm, s, m, args, below, meth, c, Q⟩ := X
  obtain ⟨-, hx, hb, hown, hts, -⟩ := hc
  exact fun H locs cells slots ls hZ hS hcl hsl hl => lv_irem hx hb d hz (k H locs cells slots ls hZ hS hcl hsl hl)
theorem wt_iushr {L : List (Option Value)} {pc : Nat} {x z v : Int32} (hc : wt_Cx l G X y cc nL fr) (d : decode cc pc = .ok (.iushr, 1)) (hv : (x.toUInt32 >>> (z.toUInt32 &&& Int32.toUInt32 31)).toInt32 = v) (k : wt_V G X (pc + 1) L (.int v :: st) Z kc ks) : wt_V G X pc L (.int z :: .int x :: st) Z kc ks := by
  obtain ⟨p, l', e, Rm, s, m, args, below, meth, c, Q⟩ := X
  obtain ⟨-, hx, hb, hown, hts, -⟩ := hc
  exact fun H locs cells slots ls hZ hS hcl hsl hl => lv_iushr hx hb d hv (k H locs cells slots ls hZ hS hcl hsl hl)
theorem wt_ineg {L : List (Option Value)} {pc : Nat} {x : Int32} (hc : wt_Cx l G X y cc nL fr) (d : decode cc pc = .ok (.ineg, 1)) (k : wt_V G X (pc + 1) L (.int (-x) :: st) Z kc ks) : wt_V G X pc L (.int x :: st) Z kc ks := by
  obtain ⟨p, l', e, Rm, s, m, args, below, meth, c, Q⟩ := X
  obtain ⟨-, hx, hb, hown, hts, -⟩ := hc
  exact fun H locs cells slots ls hZ hS hcl hsl hl => lv_ineg hx hb d (k H locs cells slots ls hZ hS hcl hsl hl)
theorem wt_ladd {L : List (Option Value)} {pc : Nat} {x z : Int64} (hc : wt_Cx l G X y cc nL fr) (d : decode cc pc = .ok (.ladd, 1)) (k : wt_V G X (pc + 1) L (.long (x + z) :: st) Z kc ks) : wt_V G X pc L (.long z :: .long x :: st) Z kc ks := by
  obtain ⟨p, l', e, Rm, s, m, args, below, meth, c, Q⟩ := X
  obtain ⟨-, hx, hb, hown, hts, -⟩ := hc
  exact fun H locs cells slots ls hZ hS hcl hsl hl => lv_ladd hx hb d (k H locs cells slots ls hZ hS hcl hsl hl)
theorem wt_lsub {L : List (Option Value)} {pc : Nat} {x z : Int64} (hc : wt_Cx l G X y cc nL fr) (d : decode cc pc = .ok (.lsub, 1)) (k : wt_V G X (pc + 1) L (.long (x - z) :: st) Z kc ks) : wt_V G X pc L (.long z :: .long x :: st) Z kc ks := by
  obtain ⟨p, l', e, Rm, s, m, args, below, meth, c, Q⟩ := X
  obtain ⟨-, hx, hb, hown, hts, -⟩ := hc
  exact fun H locs cells slots ls hZ hS hcl hsl hl => lv_lsub hx hb d (k H locs cells slots ls hZ hS hcl hsl hl)
theorem wt_lmul {L : List (Option Value)} {pc : Nat} {x z : Int64} (hc : wt_Cx l G X y cc nL fr) (d : decode cc pc = .ok (.lmul, 1)) (k : wt_V G X (pc + 1) L (.long (x * z) :: st) Z kc ks) : wt_V G X pc L (.long z :: .long x :: st) Z kc ks := by
  obtain ⟨p, l', e, Rm, s, m, args, below, meth, c, Q⟩ := X
  obtain ⟨-, hx, hb, hown, hts, -⟩ := hc
  exact fun H locs cells slots ls hZ hS hcl hsl hl => lv_lmul hx hb d (k H locs cells slots ls hZ hS hcl hsl hl)
theorem wt_land {L : List (Option Value)} {pc : Nat} {x z : Int64} (hc : wt_Cx l G X y cc nL fr) (d : decode cc pc = .ok (.land, 1)) (k : wt_V G X (pc + 1) L (.long (x &&& z) :: st) Z kc ks) : wt_V G X pc L (.long z :: .long x :: st) Z kc ks := by
  obtain ⟨p, l', e, Rm, s, m, args, below, meth, c, Q⟩ := X
  obtain ⟨-, hx, hb, hown, hts, -⟩ := hc
  exact fun H locs cells slots ls hZ hS hcl hsl hl => lv_land hx hb d (k H locs cells slots ls hZ hS hcl hsl hl)
theorem wt_lor {L : List (Option Value)} {pc : Nat} {x z : Int64} (hc : wt_Cx l G X y cc nL fr) (d : decode cc pc = .ok (.lor, 1)) (k : wt_V G X (pc + 1) L (.long (x ||| z) :: st) Z kc ks) : wt_V G X pc L (.long z :: .long x :: st) Z kc ks := by
  obtain ⟨p, l', e, Rm, s, m, args, below, meth, c, Q⟩ := X
  obtain ⟨-, hx, hb, hown, hts, -⟩ := hc
  exact fun H locs cells slots ls hZ hS hcl hsl hl => lv_lor hx hb d (k H locs cells slots ls hZ hS hcl hsl hl)
theorem wt_lxor {L : List (Option Value)} {pc : Nat} {x z : Int64} (hc : wt_Cx l G X y cc nL fr) (d : decode cc pc = .ok (.lxor, 1)) (k : wt_V G X (pc + 1) L (.long (x ^^^ z) :: st) Z kc ks) : wt_V G X pc L (.long z :: .long x :: st) Z kc ks := by
  obtain ⟨p, l', e, Rm, s, m, args, below, meth, c, Q⟩ := X
  obtain ⟨-, hx, hb, hown, hts, -⟩ := hc
  exact fun H locs cells slots ls hZ hS hcl hsl hl => lv_lxor hx hb d (k H locs cells slots ls hZ hS hcl hsl hl)
theorem wt_lshl {L : List (Option Value)} {pc : Nat} {x : Int64} {z : Int32} (hc : wt_Cx l G X y cc nL fr) (d : decode cc pc = .ok (.lshl, 1)) (k : wt_V G X (pc + 1) L (.long (x <<< (z.toInt64 &&& 63)) :: st) Z kc ks) : wt_V G X pc L (.int z :: .long x :: st) Z kc ks := by
  obtain ⟨p, l', e, Rm, s, m, args, below, meth, c, Q⟩ := X
  obtain ⟨-, hx, hb, hown, hts, -⟩ := hc
  exact fun H locs cells slots ls hZ hS hcl hsl hl => lv_lshl hx hb d rfl (k H locs cells slots ls hZ hS hcl hsl hl)
theorem wt_lcmp {L : List (Option Value)} {pc : Nat} {x z : Int64} (hc : wt_Cx l G X y cc nL fr) (d : decode cc pc = .ok (.lcmp, 1)) (k : wt_V G X (pc + 1) L (.int (lg_cmp x z) :: st) Z kc ks) : wt_V G X pc L (.long z :: .long x :: st) Z kc ks := by
  obtain ⟨p, l', e, Rm, s, m, args, below, meth, c, Q⟩ := X
  obtain ⟨-, hx, hb, hown, hts, -⟩ := hc
  exact fun H locs cells slots ls hZ hS hcl hsl hl => W.lcmp hx hb d (k H locs cells slots ls hZ hS hcl hsl hl)
theorem wt_i2l {L : List (Option Value)} {pc : Nat} {x : Int32} (hc : wt_Cx l G X y cc nL fr) (d : decode cc pc = .ok (.i2l, 1)) (k : wt_V G X (pc + 1) L (.long x.toInt64 :: st) Z kc ks) : wt_V G X pc L (.int x :: st) Z kc ks := by
  obtain ⟨p, l', e, Rm, s, m, args, below, meth, c, Q⟩ := X
  obtain ⟨-, hx, hb, hown, hts, -⟩ := hc
  exact fun H locs cells slots ls hZ hS hcl hsl hl => lv_i2l hx hb d rfl (k H locs cells slots ls hZ hS hcl hsl hl)
theorem wt_l2i {L : List (Option Value)} {pc : Nat} {x : Int64} (hc : wt_Cx l G X y cc nL fr) (d : decode cc pc = .ok (.l2i, 1)) (k : wt_V G X (pc + 1) L (.int x.toInt32 :: st) Z kc ks) : wt_V G X pc L (.long x :: st) Z kc ks := by
  obtain ⟨p, l', e, Rm, s, m, args, below, meth, c, Q⟩ := X
  obtain ⟨-, hx, hb, hown, hts, -⟩ := hc
  exact fun H locs cells slots ls hZ hS hcl hsl hl => lv_l2i hx hb d rfl (k H locs cells slots ls hZ hS hcl hsl hl)
theorem wt_i2b {L : List (Option Value)} {pc : Nat} {x : Int32} (hc : wt_Cx l G X y cc nL fr) (d : decode cc pc = .ok (.i2b, 1)) (k : wt_V G X (pc + 1) L (.int x.toInt8.toInt32 :: st) Z kc ks) : wt_V G X pc L (.int x :: st) Z kc ks := by
  obtain ⟨p, l', e, Rm, s, m, args, below, meth, c, Q⟩ := X
  obtain ⟨-, hx, hb, hown, hts, -⟩ := hc
  exact fun H locs cells slots ls hZ hS hcl hsl hl => lv_i2b hx hb d rfl (k H locs cells slots ls hZ hS hcl hsl hl)
theorem wt_i2c {L : List (Option Value)} {pc : Nat} {x : Int32} (hc : wt_Cx l G X y cc nL fr) (d : decode cc pc = .ok (.i2c, 1)) (k : wt_V G X (pc + 1) L (.int (x.toUInt32 % 65536).toInt32 :: st) Z kc ks) : wt_V G X pc L (.int x :: st) Z kc ks := by
  obtain ⟨p, l', e, Rm, s, m, args, below, meth, c, Q⟩ := X
  obtain ⟨-, hx, hb, hown, hts, -⟩ := hc
  exact fun H locs cells slots ls hZ hS hcl hsl hl => lv_i2c hx hb d rfl (k H locs cells slots ls hZ hS hcl hsl hl)
theorem wt_dup {L : List (Option Value)} {pc : Nat} {v : Value} (hc : wt_Cx l G X y cc nL fr) (d : decode cc pc = .ok (.dup, 1)) (hv : v.category = 1) (k : wt_V G X (pc + 1) L (v :: v :: st) Z kc ks) : wt_V G X pc L (v :: st) Z kc ks := by
  obtain ⟨p, l', e, Rm, s, m, args, below, meth, c, Q⟩ := X
  obtain ⟨-, hx, hb, hown, hts, -⟩ := hc
  exact fun H locs cells slots ls hZ hS hcl hsl hl => lv_dup hx hb d hv (k H locs cells slots ls hZ hS hcl hsl hl)
theorem wt_pop {L : List (Option Value)} {pc : Nat} {v : Value} (hc : wt_Cx l G X y cc nL fr) (d : decode cc pc = .ok (.pop, 1)) (hv : v.category = 1) (k : wt_V G X (pc + 1) L (st) Z kc ks) : wt_V G X pc L (v :: st) Z kc ks := by
  obtain ⟨p, l', e, Rm, s, m, args, below, meth, c, Q⟩ := X
  obtain ⟨-, hx, hb, hown, hts, -⟩ := hc
  exact fun H locs cells slots ls hZ hS hcl hsl hl => lv_pop hx hb d hv (k H locs cells slots ls hZ hS hcl hsl hl)
theorem wt_dup_x1 {L : List (Option Value)} {pc : Nat} {v u : Value} (hc : wt_Cx l G X y cc nL fr) (d : decode cc pc = .ok (.dup_x1, 1)) (hv : v.category = 1) (hu : u.category = 1) (k : wt_V G X (pc + 1) L (v :: u :: v :: st) Z kc ks) : wt_V G X pc L (v :: u :: st) Z kc ks := by
  obtain ⟨p, l', e, Rm, s, m, args, below, meth, c, Q⟩ := X
  obtain ⟨-, hx, hb, hown, hts, -⟩ := hc
  exact fun H locs cells slots ls hZ hS hcl hsl hl => lv_dup_x1 hx hb d hv hu (k H locs cells slots ls hZ hS hcl hsl hl)
theorem wt_dup_x2 {L : List (Option Value)} {pc : Nat} {v u t : Value} (hc : wt_Cx l G X y cc nL fr) (d : decode cc pc = .ok (.dup_x2, 1)) (hv : v.category = 1) (hu : u.category = 1) (ht : t.category = 1) (k : wt_V G X (pc + 1) L (v :: u :: t :: v :: st) Z kc ks) : wt_V G X pc L (v :: u :: t :: st) Z kc ks := by
  obtain ⟨p, l', e, Rm, s, m, args, below, meth, c, Q⟩ := X
  obtain ⟨-, hx, hb, hown, hts, -⟩ := hc
  exact fun H locs cells slots ls hZ hS hcl hsl hl => lv_dup_x2 hx hb d hv hu ht (k H locs cells slots ls hZ hS hcl hsl hl)
theorem wt_dup2 {L : List (Option Value)} {pc : Nat} {v u : Value} (hc : wt_Cx l G X y cc nL fr) (d : decode cc pc = .ok (.dup2, 1)) (hv : v.category = 1) (hu : u.category = 1) (k : wt_V G X (pc + 1) L (v :: u :: v :: u :: st) Z kc ks) : wt_V G X pc L (v :: u :: st) Z kc ks := by
  obtain ⟨p, l', e, Rm, s, m, args, below, meth, c, Q⟩ := X
  obtain ⟨-, hx, hb, hown, hts, -⟩ := hc
  exact fun H locs cells slots ls hZ hS hcl hsl hl => lv_dup2_11 hx hb d hv hu (k H locs cells slots ls hZ hS hcl hsl hl)
theorem wt_ldc {L : List (Option Value)} {pc index : Nat} {v : Int32} (hc : wt_Cx l G X y cc nL fr) (d : decode cc pc = .ok (.ldc index, 2)) (hq : Cond.constant y.cls index v ∈ lw_all) (k : wt_V G X (pc + 2) L (.int v :: st) Z kc ks) : wt_V G X pc L st Z kc ks := by
  obtain ⟨p, l', e, Rm, s, m, args, below, meth, c, Q⟩ := X
  obtain ⟨-, hx, hb, hown, hts, -⟩ := hc
  exact fun H locs cells slots ls hZ hS hcl hsl hl => lv_ldc hx hb hown (hts _ hq) d (k H locs cells slots ls hZ hS hcl hsl hl)
theorem wt_ldcw {L : List (Option Value)} {pc index : Nat} {v : Int32} (hc : wt_Cx l G X y cc nL fr) (d : decode cc pc = .ok (.ldc_w index, 3)) (hq : Cond.constant y.cls index v ∈ lw_all) (k : wt_V G X (pc + 3) L (.int v :: st) Z kc ks) : wt_V G X pc L st Z kc ks := by
  obtain ⟨p, l', e, Rm, s, m, args, below, meth, c, Q⟩ := X
  obtain ⟨-, hx, hb, hown, hts, -⟩ := hc
  exact fun H locs cells slots ls hZ hS hcl hsl hl => lv_ldcw hx hb hown (hts _ hq) d (k H locs cells slots ls hZ hS hcl hsl hl)
theorem wt_ldc2 {L : List (Option Value)} {pc index : Nat} {v : Int64} (hc : wt_Cx l G X y cc nL fr) (d : decode cc pc = .ok (.ldc2_w index, 3)) (hq : Cond.constantLong y.cls index v ∈ lw_all) (k : wt_V G X (pc + 3) L (.long v :: st) Z kc ks) : wt_V G X pc L st Z kc ks := by
  obtain ⟨p, l', e, Rm, s, m, args, below, meth, c, Q⟩ := X
  obtain ⟨-, hx, hb, hown, hts, -⟩ := hc
  exact fun H locs cells slots ls hZ hS hcl hsl hl => lv_ldc2 hx hb hown (hts _ hq) d (k H locs cells slots ls hZ hS hcl hsl hl)
theorem wt_if_eq {L : List (Option Value)} {pc : Nat} {off : Int} {x : Int32} (tgt : Nat) (hc : wt_Cx l G X y cc nL fr) (d : decode cc pc = .ok (.ifCond .eq off, 3)) (ht : (pc : Int) + off = (tgt : Int)) (kt : x = 0 → wt_V G X tgt L st Z kc ks) (kf : ¬ x = 0 → wt_V G X (pc + 3) L st Z kc ks) : wt_V G X pc L (.int x :: st) Z kc ks := by
  obtain ⟨p, l', e, Rm, s, m, args, below, meth, c, Q⟩ := X
  obtain ⟨-, hx, hb, hown, hts, -⟩ := hc
  exact fun H locs cells slots ls hZ hS hcl hsl hl => lv_if_eq hx hb d ht (fun q => kt q H locs cells slots ls hZ hS hcl hsl hl) (fun q => kf q H locs cells slots ls hZ hS hcl hsl hl)
theorem wt_if_ne {L : List (Option Value)} {pc : Nat} {off : Int} {x : Int32} (tgt : Nat) (hc : wt_Cx l G X y cc nL fr) (d : decode cc pc = .ok (.ifCond .ne off, 3)) (ht : (pc : Int) + off = (tgt : Int)) (kt : ¬ x = 0 → wt_V G X tgt L st Z kc ks) (kf : x = 0 → wt_V G X (pc + 3) L st Z kc ks) : wt_V G X pc L (.int x :: st) Z kc ks := by
  obtain ⟨p, l', e, Rm, s, m, args, below, meth, c, Q⟩ := X
  obtain ⟨-, hx, hb, hown, hts, -⟩ := hc
  exact fun H locs cells slots ls hZ hS hcl hsl hl => lv_if_ne hx hb d ht (fun q => kt q H locs cells slots ls hZ hS hcl hsl hl) (fun q => kf q H locs cells slots ls hZ hS hcl hsl hl)
theorem wt_if_lt {L : List (Option Value)} {pc : Nat} {off : Int} {x : Int32} (tgt : Nat) (hc : wt_Cx l G X y cc nL fr) (d : decode cc pc = .ok (.ifCond .lt off, 3)) (ht : (pc : Int) + off = (tgt : Int)) (kt : x < 0 → wt_V G X tgt L st Z kc ks) (kf : ¬ x < 0 → wt_V G X (pc + 3) L st Z kc ks) : wt_V G X pc L (.int x :: st) Z kc ks := by
  obtain ⟨p, l', e, Rm, s, m, args, below, meth, c, Q⟩ := X
  obtain ⟨-, hx, hb, hown, hts, -⟩ := hc
  exact fun H locs cells slots ls hZ hS hcl hsl hl => lv_if_lt hx hb d ht (fun q => kt q H locs cells slots ls hZ hS hcl hsl hl) (fun q => kf q H locs cells slots ls hZ hS hcl hsl hl)
theorem wt_if_ge {L : List (Option Value)} {pc : Nat} {off : Int} {x : Int32} (tgt : Nat) (hc : wt_Cx l G X y cc nL fr) (d : decode cc pc = .ok (.ifCond .ge off, 3)) (ht : (pc : Int) + off = (tgt : Int)) (kt : 0 ≤ x → wt_V G X tgt L st Z kc ks) (kf : ¬ 0 ≤ x → wt_V G X (pc + 3) L st Z kc ks) : wt_V G X pc L (.int x :: st) Z kc ks := by
  obtain ⟨p, l', e, Rm, s, m, args, below, meth, c, Q⟩ := X
  obtain ⟨-, hx, hb, hown, hts, -⟩ := hc
  exact fun H locs cells slots ls hZ hS hcl hsl hl => lv_if_ge hx hb d ht (fun q => kt q H locs cells slots ls hZ hS hcl hsl hl) (fun q => kf q H locs cells slots ls hZ hS hcl hsl hl)
theorem wt_if_gt {L : List (Option Value)} {pc : Nat} {off : Int} {x : Int32} (tgt : Nat) (hc : wt_Cx l G X y cc nL fr) (d : decode cc pc = .ok (.ifCond .gt off, 3)) (ht : (pc : Int) + off = (tgt : Int)) (kt : 0 < x → wt_V G X tgt L st Z kc ks) (kf : ¬ 0 < x → wt_V G X (pc + 3) L st Z kc ks) : wt_V G X pc L (.int x :: st) Z kc ks := by
  obtain ⟨p, l', e, Rm, s, m, args, below, meth, c, Q⟩ := X
  obtain ⟨-, hx, hb, hown, hts, -⟩ := hc
  exact fun H locs cells slots ls hZ hS hcl hsl hl => lv_if_gt hx hb d ht (fun q => kt q H locs cells slots ls hZ hS hcl hsl hl) (fun q => kf q H locs cells slots ls hZ hS hcl hsl hl)
theorem wt_if_le {L : List (Option Value)} {pc : Nat} {off : Int} {x : Int32} (tgt : Nat) (hc : wt_Cx l G X y cc nL fr) (d : decode cc pc = .ok (.ifCond .le off, 3)) (ht : (pc : Int) + off = (tgt : Int)) (kt : x ≤ 0 → wt_V G X tgt L st Z kc ks) (kf : ¬ x ≤ 0 → wt_V G X (pc + 3) L st Z kc ks) : wt_V G X pc L (.int x :: st) Z kc ks := by
  obtain ⟨p, l', e, Rm, s, m, args, below, meth, c, Q⟩ := X
  obtain ⟨-, hx, hb, hown, hts, -⟩ := hc
  exact fun H locs cells slots ls hZ hS hcl hsl hl => lv_if_le hx hb d ht (fun q => kt q H locs cells slots ls hZ hS hcl hsl hl) (fun q => kf q H locs cells slots ls hZ hS hcl hsl hl)
theorem wt_icmp_eq {L : List (Option Value)} {pc : Nat} {off : Int} {x z : Int32} (tgt : Nat) (hc : wt_Cx l G X y cc nL fr) (d : decode cc pc = .ok (.if_icmp .eq off, 3)) (ht : (pc : Int) + off = (tgt : Int)) (kt : x = z → wt_V G X tgt L st Z kc ks) (kf : ¬ x = z → wt_V G X (pc + 3) L st Z kc ks) : wt_V G X pc L (.int z :: .int x :: st) Z kc ks := by
  obtain ⟨p, l', e, Rm, s, m, args, below, meth, c, Q⟩ := X
  obtain ⟨-, hx, hb, hown, hts, -⟩ := hc
  exact fun H locs cells slots ls hZ hS hcl hsl hl => lv_icmp_eq hx hb d ht (fun q => kt q H locs cells slots ls hZ hS hcl hsl hl) (fun q => kf q H locs cells slots ls hZ hS hcl hsl hl)
theorem wt_icmp_ne {L : List (Option Value)} {pc : Nat} {off : Int} {x z : Int32} (tgt : Nat) (hc : wt_Cx l G X y cc nL fr) (d : decode cc pc = .ok (.if_icmp .ne off, 3)) (ht : (pc : Int) + off = (tgt : Int)) (kt : ¬ x = z → wt_V G X tgt L st Z kc ks) (kf : x = z → wt_V G X (pc + 3) L st Z kc ks) : wt_V G X pc L (.int z :: .int x :: st) Z kc ks := by
  obtain ⟨p, l', e, Rm, s, m, args, below, meth, c, Q⟩ := X
  obtain ⟨-, hx, hb, hown, hts, -⟩ := hc
  exact fun H locs cells slots ls hZ hS hcl hsl hl => lv_icmp_ne hx hb d ht (fun q => kt q H locs cells slots ls hZ hS hcl hsl hl) (fun q => kf q H locs cells slots ls hZ hS hcl hsl hl)
theorem wt_icmp_lt {L : List (Option Value)} {pc : Nat} {off : Int} {x z : Int32} (tgt : Nat) (hc : wt_Cx l G X y cc nL fr) (d : decode cc pc = .ok (.if_icmp .lt off, 3)) (ht : (pc : Int) + off = (tgt : Int)) (kt : x < z → wt_V G X tgt L st Z kc ks) (kf : ¬ x < z → wt_V G X (pc + 3) L st Z kc ks) : wt_V G X pc L (.int z :: .int x :: st) Z kc ks := by
  obtain ⟨p, l', e, Rm, s, m, args, below, meth, c, Q⟩ := X
  obtain ⟨-, hx, hb, hown, hts, -⟩ := hc
  exact fun H locs cells slots ls hZ hS hcl hsl hl => lv_icmp_lt hx hb d ht (fun q => kt q H locs cells slots ls hZ hS hcl hsl hl) (fun q => kf q H locs cells slots ls hZ hS hcl hsl hl)
theorem wt_icmp_ge {L : List (Option Value)} {pc : Nat} {off : Int} {x z : Int32} (tgt : Nat) (hc : wt_Cx l G X y cc nL fr) (d : decode cc pc = .ok (.if_icmp .ge off, 3)) (ht : (pc : Int) + off = (tgt : Int)) (kt : z ≤ x → wt_V G X tgt L st Z kc ks) (kf : ¬ z ≤ x → wt_V G X (pc + 3) L st Z kc ks) : wt_V G X pc L (.int z :: .int x :: st) Z kc ks := by
  obtain ⟨p, l', e, Rm, s, m, args, below, meth, c, Q⟩ := X
  obtain ⟨-, hx, hb, hown, hts, -⟩ := hc
  exact fun H locs cells slots ls hZ hS hcl hsl hl => lv_icmp_ge hx hb d ht (fun q => kt q H locs cells slots ls hZ hS hcl hsl hl) (fun q => kf q H locs cells slots ls hZ hS hcl hsl hl)
theorem wt_icmp_gt {L : List (Option Value)} {pc : Nat} {off : Int} {x z : Int32} (tgt : Nat) (hc : wt_Cx l G X y cc nL fr) (d : decode cc pc = .ok (.if_icmp .gt off, 3)) (ht : (pc : Int) + off = (tgt : Int)) (kt : z < x → wt_V G X tgt L st Z kc ks) (kf : ¬ z < x → wt_V G X (pc + 3) L st Z kc ks) : wt_V G X pc L (.int z :: .int x :: st) Z kc ks := by
  obtain ⟨p, l', e, Rm, s, m, args, below, meth, c, Q⟩ := X
  obtain ⟨-, hx, hb, hown, hts, -⟩ := hc
  exact fun H locs cells slots ls hZ hS hcl hsl hl => lv_icmp_gt hx hb d ht (fun q => kt q H locs cells slots ls hZ hS hcl hsl hl) (fun q => kf q H locs cells slots ls hZ hS hcl hsl hl)
theorem wt_icmp_le {L : List (Option Value)} {pc : Nat} {off : Int} {x z : Int32} (tgt : Nat) (hc : wt_Cx l G X y cc nL fr) (d : decode cc pc = .ok (.if_icmp .le off, 3)) (ht : (pc : Int) + off = (tgt : Int)) (kt : x ≤ z → wt_V G X tgt L st Z kc ks) (kf : ¬ x ≤ z → wt_V G X (pc + 3) L st Z kc ks) : wt_V G X pc L (.int z :: .int x :: st) Z kc ks := by
  obtain ⟨p, l', e, Rm, s, m, args, below, meth, c, Q⟩ := X
  obtain ⟨-, hx, hb, hown, hts, -⟩ := hc
  exact fun H locs cells slots ls hZ hS hcl hsl hl => lv_icmp_le hx hb d ht (fun q => kt q H locs cells slots ls hZ hS hcl hsl hl) (fun q => kf q H locs cells slots ls hZ hS hcl hsl hl)
theorem wt_nicmp_eq {L : List (Option Value)} {pc : Nat} {off : Int} (tgt a b : Nat) (hc : wt_Cx l G X y cc nL fr) (d : decode cc pc = .ok (.if_icmp .eq off, 3)) (ht : (pc : Int) + off = (tgt : Int)) (ha : a < 2 ^ 31) (hb : b < 2 ^ 31) (kt : a = b → wt_V G X tgt L st Z kc ks) (kf : ¬ a = b → wt_V G X (pc + 3) L st Z kc ks) : wt_V G X pc L (.int (nI b) :: .int (nI a) :: st) Z kc ks :=
  wt_icmp_eq tgt hc d ht (fun q => kt ((nI_eq ha hb).mp q)) (fun q => kf (fun z => q ((nI_eq ha hb).mpr z)))
theorem wt_nicmp_ne {L : List (Option Value)} {pc : Nat} {off : Int} (tgt a b : Nat) (hc : wt_Cx l G X y cc nL fr) (d : decode cc pc = .ok (.if_icmp .ne off, 3)) (ht : (pc : Int) + off = (tgt : Int)) (ha : a < 2 ^ 31) (hb : b < 2 ^ 31) (kt : ¬ a = b → wt_V G X tgt L st Z kc ks) (kf : a = b → wt_V G X (pc + 3) L st Z kc ks) : wt_V G X pc L (.int (nI b) :: .int (nI a) :: st) Z kc ks :=
  wt_icmp_ne tgt hc d ht (fun q => kt (fun z => q ((nI_eq ha hb).mpr z))) (fun q => kf ((nI_eq ha hb).mp q))
theorem wt_nicmp_lt {L : List (Option Value)} {pc : Nat} {off : Int} (tgt a b : Nat) (hc : wt_Cx l G X y cc nL fr) (d : decode cc pc = .ok (.if_icmp .lt off, 3)) (ht : (pc : Int) + off = (tgt : Int)) (ha : a < 2 ^ 31) (hb : b < 2 ^ 31) (kt : a < b → wt_V G X tgt L st Z kc ks) (kf : b ≤ a → wt_V G X (pc + 3) L st Z kc ks) : wt_V G X pc L (.int (nI b) :: .int (nI a) :: st) Z kc ks :=
  wt_icmp_lt tgt hc d ht (fun q => kt ((nI_ltI ha hb).mp q)) (fun q => kf (Nat.not_lt.mp (fun z => q ((nI_ltI ha hb).mpr z))))
theorem wt_nicmp_ge {L : List (Option Value)} {pc : Nat} {off : Int} (tgt a b : Nat) (hc : wt_Cx l G X y cc nL fr) (d : decode cc pc = .ok (.if_icmp .ge off, 3)) (ht : (pc : Int) + off = (tgt : Int)) (ha : a < 2 ^ 31) (hb : b < 2 ^ 31) (kt : b ≤ a → wt_V G X tgt L st Z kc ks) (kf : a < b → wt_V G X (pc + 3) L st Z kc ks) : wt_V G X pc L (.int (nI b) :: .int (nI a) :: st) Z kc ks :=
  wt_icmp_ge tgt hc d ht (fun q => kt ((nI_leI hb ha).mp q)) (fun q => kf (Nat.not_le.mp (fun z => q ((nI_leI hb ha).mpr z))))
theorem wt_nicmp_gt {L : List (Option Value)} {pc : Nat} {off : Int} (tgt a b : Nat) (hc : wt_Cx l G X y cc nL fr) (d : decode cc pc = .ok (.if_icmp .gt off, 3)) (ht : (pc : Int) + off = (tgt : Int)) (ha : a < 2 ^ 31) (hb : b < 2 ^ 31) (kt : b < a → wt_V G X tgt L st Z kc ks) (kf : a ≤ b → wt_V G X (pc + 3) L st Z kc ks) : wt_V G X pc L (.int (nI b) :: .int (nI a) :: st) Z kc ks :=
  wt_icmp_gt tgt hc d ht (fun q => kt ((nI_ltI hb ha).mp q)) (fun q => kf (Nat.not_lt.mp (fun z => q ((nI_ltI hb ha).mpr z))))
theorem wt_nicmp_le {L : List (Option Value)} {pc : Nat} {off : Int} (tgt a b : Nat) (hc : wt_Cx l G X y cc nL fr) (d : decode cc pc = .ok (.if_icmp .le off, 3)) (ht : (pc : Int) + off = (tgt : Int)) (ha : a < 2 ^ 31) (hb : b < 2 ^ 31) (kt : a ≤ b → wt_V G X tgt L st Z kc ks) (kf : b < a → wt_V G X (pc + 3) L st Z kc ks) : wt_V G X pc L (.int (nI b) :: .int (nI a) :: st) Z kc ks :=
  wt_icmp_le tgt hc d ht (fun q => kt ((nI_leI ha hb).mp q)) (fun q => kf (Nat.not_le.mp (fun z => q ((nI_leI ha hb).mpr z))))
theorem wt_goto {L : List (Option Value)} {pc : Nat} {off : Int} (tgt : Nat) (hc : wt_Cx l G X y cc nL fr) (d : decode cc pc = .ok (.goto off, 3)) (ht : (pc : Int) + off = (tgt : Int)) (k : wt_V G X tgt L st Z kc ks) : wt_V G X pc L st Z kc ks := by
  obtain ⟨p, l', e, Rm, s, m, args, below, meth, c, Q⟩ := X
  obtain ⟨-, hx, hb, hown, hts, -⟩ := hc
  exact fun H locs cells slots ls hZ hS hcl hsl hl => lv_goto hx hb d ht (k H locs cells slots ls hZ hS hcl hsl hl)
theorem wt_ifnull {L : List (Option Value)} {pc : Nat} {off : Int} {a : Nat} (hc : wt_Cx l G X y cc nL fr) (d : decode cc pc = .ok (.ifnull off, 3)) (k : wt_V G X (pc + 3) L st Z kc ks) : wt_V G X pc L (.ref a :: st) Z kc ks := by
  obtain ⟨p, l', e, Rm, s, m, args, below, meth, c, Q⟩ := X
  obtain ⟨-, hx, hb, hown, hts, -⟩ := hc
  exact fun H locs cells slots ls hZ hS hcl hsl hl => lv_ifnull hx hb d (k H locs cells slots ls hZ hS hcl hsl hl)
theorem wt_ifnullN {L : List (Option Value)} {pc : Nat} {off : Int} (tgt : Nat) (hc : wt_Cx l G X y cc nL fr) (d : decode cc pc = .ok (.ifnull off, 3)) (ht : (pc : Int) + off = (tgt : Int)) (k : wt_V G X tgt L st Z kc ks) : wt_V G X pc L (.null :: st) Z kc ks := by
  obtain ⟨p, l', e, Rm, s, m, args, below, meth, c, Q⟩ := X
  obtain ⟨-, hx, hb, hown, hts, -⟩ := hc
  exact fun H locs cells slots ls hZ hS hcl hsl hl => lv_ifnullN hx hb d ht (k H locs cells slots ls hZ hS hcl hsl hl)
theorem wt_ifnonnull {L : List (Option Value)} {pc : Nat} {off : Int} {a : Nat} (tgt : Nat) (hc : wt_Cx l G X y cc nL fr) (d : decode cc pc = .ok (.ifnonnull off, 3)) (ht : (pc : Int) + off = (tgt : Int)) (k : wt_V G X tgt L st Z kc ks) : wt_V G X pc L (.ref a :: st) Z kc ks := by
  obtain ⟨p, l', e, Rm, s, m, args, below, meth, c, Q⟩ := X
  obtain ⟨-, hx, hb, hown, hts, -⟩ := hc
  exact fun H locs cells slots ls hZ hS hcl hsl hl => lv_ifnonnull hx hb d ht (k H locs cells slots ls hZ hS hcl hsl hl)
theorem wt_ifnonnullN {L : List (Option Value)} {pc : Nat} {off : Int} (hc : wt_Cx l G X y cc nL fr) (d : decode cc pc = .ok (.ifnonnull off, 3)) (k : wt_V G X (pc + 3) L st Z kc ks) : wt_V G X pc L (.null :: st) Z kc ks := by
  obtain ⟨p, l', e, Rm, s, m, args, below, meth, c, Q⟩ := X
  obtain ⟨-, hx, hb, hown, hts, -⟩ := hc
  exact fun H locs cells slots ls hZ hS hcl hsl hl => lv_ifnonnullN hx hb d (k H locs cells slots ls hZ hS hcl hsl hl)
theorem wt_acmp_eq {L : List (Option Value)} {pc : Nat} {off : Int} {a b : Nat} (tgt : Nat) (hc : wt_Cx l G X y cc nL fr) (d : decode cc pc = .ok (.if_acmp .eq off, 3)) (ht : (pc : Int) + off = (tgt : Int)) (kt : a = b → wt_V G X tgt L st Z kc ks) (kf : ¬ a = b → wt_V G X (pc + 3) L st Z kc ks) : wt_V G X pc L (.ref b :: .ref a :: st) Z kc ks := by
  obtain ⟨p, l', e, Rm, s, m, args, below, meth, c, Q⟩ := X
  obtain ⟨-, hx, hb, hown, hts, -⟩ := hc
  exact fun H locs cells slots ls hZ hS hcl hsl hl => lv_acmp_eq (rx := some a) (ry := some b) hx hb d ht (fun q => kt (Option.some.inj q) H locs cells slots ls hZ hS hcl hsl hl) (fun q => kf (fun z => q (congrArg some z)) H locs cells slots ls hZ hS hcl hsl hl)
theorem wt_acmp_ne {L : List (Option Value)} {pc : Nat} {off : Int} {a b : Nat} (tgt : Nat) (hc : wt_Cx l G X y cc nL fr) (d : decode cc pc = .ok (.if_acmp .ne off, 3)) (ht : (pc : Int) + off = (tgt : Int)) (kt : ¬ a = b → wt_V G X tgt L st Z kc ks) (kf : a = b → wt_V G X (pc + 3) L st Z kc ks) : wt_V G X pc L (.ref b :: .ref a :: st) Z kc ks := by
  obtain ⟨p, l', e, Rm, s, m, args, below, meth, c, Q⟩ := X
  obtain ⟨-, hx, hb, hown, hts, -⟩ := hc
  exact fun H locs cells slots ls hZ hS hcl hsl hl => lv_acmp_ne (rx := some a) (ry := some b) hx hb d ht (fun q => kt (fun z => q (congrArg some z)) H locs cells slots ls hZ hS hcl hsl hl) (fun q => kf (Option.some.inj q) H locs cells slots ls hZ hS hcl hsl hl)
theorem wt_tableIn {L : List (Option Value)} {pc len : Nat} {dflt lo hi off : Int} {offs : Array Int} {x : Int32} (tgt : Nat) (hc : wt_Cx l G X y cc nL fr) (d : decode cc pc = .ok (.tableswitch dflt lo hi offs, len)) (h1 : ¬ x.toInt < lo) (h2 : ¬ hi < x.toInt) (ho : offs[(x.toInt - lo).toNat]? = some off) (ht : (pc : Int) + off = (tgt : Int)) (k : wt_V G X tgt L st Z kc ks) : wt_V G X pc L (.int x :: st) Z kc ks := by
  obtain ⟨p, l', e, Rm, s, m, args, below, meth, c, Q⟩ := X
  obtain ⟨-, hx, hb, hown, hts, -⟩ := hc
  exact fun H locs cells slots ls hZ hS hcl hsl hl => lv_tableIn hx hb d h1 h2 ho ht (k H locs cells slots ls hZ hS hcl hsl hl)
theorem wt_tableOut {L : List (Option Value)} {pc len : Nat} {dflt lo hi : Int} {offs : Array Int} {x : Int32} (tgt : Nat) (hc : wt_Cx l G X y cc nL fr) (d : decode cc pc = .ok (.tableswitch dflt lo hi offs, len)) (h : x.toInt < lo ∨ hi < x.toInt) (ht : (pc : Int) + dflt = (tgt : Int)) (k : wt_V G X tgt L st Z kc ks) : wt_V G X pc L (.int x :: st) Z kc ks := by
  obtain ⟨p, l', e, Rm, s, m, args, below, meth, c, Q⟩ := X
  obtain ⟨-, hx, hb, hown, hts, -⟩ := hc
  exact fun H locs cells slots ls hZ hS hcl hsl hl => lv_tableOut hx hb d h ht (k H locs cells slots ls hZ hS hcl hsl hl)
theorem wt_iload_0 {pc : Nat} {r : List (Option Value)} {x : Int32} (hc : wt_Cx l G X y cc nL fr) (d : decode cc pc = .ok (.iload_n 0, 1)) (k : wt_V G X (pc + 1) (some (.int x) :: r) (.int x :: st) Z kc ks) : wt_V G X pc (some (.int x) :: r) st Z kc ks := by
  obtain ⟨p, l', e, Rm, s, m, args, below, meth, c, Q⟩ := X
  obtain ⟨-, hx, hb, hown, hts, -⟩ := hc
  exact fun H locs cells slots ls hZ hS hcl hsl hl => lv_iload_n hx hb d rfl (hl.2.2 0 (.int x) (by rfl)) (k H locs cells slots ls hZ hS hcl hsl hl)
theorem wt_lload_0 {pc : Nat} {r : List (Option Value)} {x : Int64} (hc : wt_Cx l G X y cc nL fr) (d : decode cc pc = .ok (.lload_n 0, 1)) (k : wt_V G X (pc + 1) (some (.long x) :: r) (.long x :: st) Z kc ks) : wt_V G X pc (some (.long x) :: r) st Z kc ks := by
  obtain ⟨p, l', e, Rm, s, m, args, below, meth, c, Q⟩ := X
  obtain ⟨-, hx, hb, hown, hts, -⟩ := hc
  exact fun H locs cells slots ls hZ hS hcl hsl hl => lv_lload_n hx hb d rfl (hl.2.2 0 (.long x) (by rfl)) (k H locs cells slots ls hZ hS hcl hsl hl)
theorem wt_aload_0 {pc : Nat} {r : List (Option Value)} {x : Nat} (hc : wt_Cx l G X y cc nL fr) (d : decode cc pc = .ok (.aload_n 0, 1)) (k : wt_V G X (pc + 1) (some (.ref x) :: r) (.ref x :: st) Z kc ks) : wt_V G X pc (some (.ref x) :: r) st Z kc ks := by
  obtain ⟨p, l', e, Rm, s, m, args, below, meth, c, Q⟩ := X
  obtain ⟨-, hx, hb, hown, hts, -⟩ := hc
  exact fun H locs cells slots ls hZ hS hcl hsl hl => lv_aload_n hx hb d rfl (hl.2.2 0 (.ref x) (by rfl)) (k H locs cells slots ls hZ hS hcl hsl hl)
theorem wt_aloadN_0 {pc : Nat} {r : List (Option Value)} (hc : wt_Cx l G X y cc nL fr) (d : decode cc pc = .ok (.aload_n 0, 1)) (k : wt_V G X (pc + 1) (some .null :: r) (.null :: st) Z kc ks) : wt_V G X pc (some .null :: r) st Z kc ks := by
  obtain ⟨p, l', e, Rm, s, m, args, below, meth, c, Q⟩ := X
  obtain ⟨-, hx, hb, hown, hts, -⟩ := hc
  exact fun H locs cells slots ls hZ hS hcl hsl hl => lv_aload_nN hx hb d rfl (hl.2.2 0 .null (by rfl)) (k H locs cells slots ls hZ hS hcl hsl hl)
theorem wt_istore_0 {pc : Nat} {b : Option Value} {r : List (Option Value)} {x : Int32} (hc : wt_Cx l G X y cc nL fr) (d : decode cc pc = .ok (.istore_n 0, 1)) (hn : wt_nl (b :: r) 0 = true) (k : wt_V G X (pc + 1) (some (.int x) :: r) st Z kc ks) : wt_V G X pc (b :: r) (.int x :: st) Z kc ks := by
  obtain ⟨p, l', e, Rm, s, m, args, below, meth, c, Q⟩ := X
  obtain ⟨-, hx, hb, hown, hts, -⟩ := hc
  exact fun H locs cells slots ls hZ hS hcl hsl hl => lv_istore_n hx hb d rfl hl.has (by simp only [List.length_cons]; omega) rfl (fun ls' hl' => k H locs cells slots ls' hZ hS hcl hsl (wt_lv.st1 hn (by simp only [List.length_cons]; omega) hl'))
theorem wt_astore_0 {pc : Nat} {b : Option Value} {r : List (Option Value)} {x : Nat} (hc : wt_Cx l G X y cc nL fr) (d : decode cc pc = .ok (.astore_n 0, 1)) (hn : wt_nl (b :: r) 0 = true) (k : wt_V G X (pc + 1) (some (.ref x) :: r) st Z kc ks) : wt_V G X pc (b :: r) (.ref x :: st) Z kc ks := by
  obtain ⟨p, l', e, Rm, s, m, args, below, meth, c, Q⟩ := X
  obtain ⟨-, hx, hb, hown, hts, -⟩ := hc
  exact fun H locs cells slots ls hZ hS hcl hsl hl => lv_astore_n hx hb d rfl hl.has (by simp only [List.length_cons]; omega) rfl (fun ls' hl' => k H locs cells slots ls' hZ hS hcl hsl (wt_lv.st1 hn (by simp only [List.length_cons]; omega) hl'))
theorem wt_astoreN_0 {pc : Nat} {b : Option Value} {r : List (Option Value)} (hc : wt_Cx l G X y cc nL fr) (d : decode cc pc = .ok (.astore_n 0, 1)) (hn : wt_nl (b :: r) 0 = true) (k : wt_V G X (pc + 1) (some (.null) :: r) st Z kc ks) : wt_V G X pc (b :: r) (.null :: st) Z kc ks := by
  obtain ⟨p, l', e, Rm, s, m, args, below, meth, c, Q⟩ := X
  obtain ⟨-, hx, hb, hown, hts, -⟩ := hc
  exact fun H locs cells slots ls hZ hS hcl hsl hl => lv_astore_nN hx hb d rfl hl.has (by simp only [List.length_cons]; omega) rfl (fun ls' hl' => k H locs cells slots ls' hZ hS hcl hsl (wt_lv.st1 hn (by simp only [List.length_cons]; omega) hl'))
theorem wt_lstore_0 {pc : Nat} {b b2 : Option Value} {r : List (Option Value)} {x : Int64} (hc : wt_Cx l G X y cc nL fr) (d : decode cc pc = .ok (.lstore_n 0, 1)) (hn : wt_nl (b :: b2 :: r) 0 = true) (k : wt_V G X (pc + 1) (some (.long x) :: none :: r) st Z kc ks) : wt_V G X pc (b :: b2 :: r) (.long x :: st) Z kc ks := by
  obtain ⟨p, l', e, Rm, s, m, args, below, meth, c, Q⟩ := X
  obtain ⟨-, hx, hb, hown, hts, -⟩ := hc
  exact fun H locs cells slots ls hZ hS hcl hsl hl => lv_lstore_n hx hb d rfl hl.has (by simp only [List.length_cons]; omega) rfl (fun ls' hl' => k H locs cells slots ls' hZ hS hcl hsl (wt_lv.st2 hn (by simp only [List.length_cons]; omega) hl'))
theorem wt_iinc_0 {pc : Nat} {r : List (Option Value)} {n : Int} {x v : Int32} (hc : wt_Cx l G X y cc nL fr) (d : decode cc pc = .ok (.iinc 0 n, 3)) (hv : x + Int32.ofInt n = v) (hn : wt_nl (some (.int x) :: r) 0 = true) (k : wt_V G X (pc + 3) (some (.int v) :: r) st Z kc ks) : wt_V G X pc (some (.int x) :: r) st Z kc ks := by
  obtain ⟨p, l', e, Rm, s, m, args, below, meth, c, Q⟩ := X
  obtain ⟨-, hx, hb, hown, hts, -⟩ := hc
  intro H locs cells slots ls hZ hS hcl hsl hl
  have h1 : lv_has ls (some (.int x) :: r).length (((0, Value.int x)) :: wt_as 0 (some (.int x) :: r)) := by
    refine ⟨hl.1, hl.2.1, fun q hq => ?_⟩
    rcases List.mem_cons.mp hq with rfl | hq
    · exact hl.2.2 0 _ (by rfl)
    · exact hl.has.2.2 q hq
  refine lv_iinc (k := 0) hx hb d h1 rfl hv (by simp only [List.length_cons]; omega) rfl (fun ls' hl' => k H locs cells slots ls' hZ hS hcl hsl (wt_lv.st1 hn (by simp only [List.length_cons]; omega) ?_))
  refine wt_has_sub hl' (fun q hq => ?_)
  rcases List.mem_cons.mp hq with rfl | hq
  · exact List.mem_cons_self
  · exact List.mem_cons_of_mem _ (List.mem_filter.mpr ⟨List.mem_cons_of_mem _ (List.mem_filter.mp hq).1, (List.mem_filter.mp hq).2⟩)
theorem wt_iload_1 {pc : Nat} {a0 : Option Value} {r : List (Option Value)} {x : Int32} (hc : wt_Cx l G X y cc nL fr) (d : decode cc pc = .ok (.iload_n 1, 1)) (k : wt_V G X (pc + 1) (a0 :: some (.int x) :: r) (.int x :: st) Z kc ks) : wt_V G X pc (a0 :: some (.int x) :: r) st Z kc ks := by
  obtain ⟨p, l', e, Rm, s, m, args, below, meth, c, Q⟩ := X
  obtain ⟨-, hx, hb, hown, hts, -⟩ := hc
  exact fun H locs cells slots ls hZ hS hcl hsl hl => lv_iload_n hx hb d rfl (hl.2.2 1 (.int x) (by rfl)) (k H locs cells slots ls hZ hS hcl hsl hl)
theorem wt_lload_1 {pc : Nat} {a0 : Option Value} {r : List (Option Value)} {x : Int64} (hc : wt_Cx l G X y cc nL fr) (d : decode cc pc = .ok (.lload_n 1, 1)) (k : wt_V G X (pc + 1) (a0 :: some (.long x) :: r) (.long x :: st) Z kc ks) : wt_V G X pc (a0 :: some (.long x) :: r) st Z kc ks := by
  obtain ⟨p, l', e, Rm, s, m, args, below, meth, c, Q⟩ := X
  obtain ⟨-, hx, hb, hown, hts, -⟩ := hc
  exact fun H locs cells slots ls hZ hS hcl hsl hl => lv_lload_n hx hb d rfl (hl.2.2 1 (.long x) (by rfl)) (k H locs cells slots ls hZ hS hcl hsl hl)
theorem wt_aload_1 {pc : Nat} {a0 : Option Value} {r : List (Option Value)} {x : Nat} (hc : wt_Cx l G X y cc nL fr) (d : decode cc pc = .ok (.aload_n 1, 1)) (k : wt_V G X (pc + 1) (a0 :: some (.ref x) :: r) (.ref x :: st) Z kc ks) : wt_V G X pc (a0 :: some (.ref x) :: r) st Z kc ks := by
  obtain ⟨p, l', e, Rm, s, m, args, below, meth, c, Q⟩ := X
  obtain ⟨-, hx, hb, hown, hts, -⟩ := hc
  exact fun H locs cells slots ls hZ hS hcl hsl hl => lv_aload_n hx hb d rfl (hl.2.2 1 (.ref x) (by rfl)) (k H locs cells slots ls hZ hS hcl hsl hl)
theorem wt_aloadN_1 {pc : Nat} {a0 : Option Value} {r : List (Option Value)} (hc : wt_Cx l G X y cc nL fr) (d : decode cc pc = .ok (.aload_n 1, 1)) (k : wt_V G X (pc + 1) (a0 :: some .null :: r) (.null :: st) Z kc ks) : wt_V G X pc (a0 :: some .null :: r) st Z kc ks := by
  obtain ⟨p, l', e, Rm, s, m, args, below, meth, c, Q⟩ := X
  obtain ⟨-, hx, hb, hown, hts, -⟩ := hc
  exact fun H locs cells slots ls hZ hS hcl hsl hl => lv_aload_nN hx hb d rfl (hl.2.2 1 .null (by rfl)) (k H locs cells slots ls hZ hS hcl hsl hl)
theorem wt_istore_1 {pc : Nat} {a0 : Option Value} {b : Option Value} {r : List (Option Value)} {x : Int32} (hc : wt_Cx l G X y cc nL fr) (d : decode cc pc = .ok (.istore_n 1, 1)) (hn : wt_nl (a0 :: b :: r) 1 = true) (k : wt_V G X (pc + 1) (a0 :: some (.int x) :: r) st Z kc ks) : wt_V G X pc (a0 :: b :: r) (.int x :: st) Z kc ks := by
  obtain ⟨p, l', e, Rm, s, m, args, below, meth, c, Q⟩ := X
  obtain ⟨-, hx, hb, hown, hts, -⟩ := hc
  exact fun H locs cells slots ls hZ hS hcl hsl hl => lv_istore_n hx hb d rfl hl.has (by simp only [List.length_cons]; omega) rfl (fun ls' hl' => k H locs cells slots ls' hZ hS hcl hsl (wt_lv.st1 hn (by simp only [List.length_cons]; omega) hl'))
theorem wt_astore_1 {pc : Nat} {a0 : Option Value} {b : Option Value} {r : List (Option Value)} {x : Nat} (hc : wt_Cx l G X y cc nL fr) (d : decode cc pc = .ok (.astore_n 1, 1)) (hn : wt_nl (a0 :: b :: r) 1 = true) (k : wt_V G X (pc + 1) (a0 :: some (.ref x) :: r) st Z kc ks) : wt_V G X pc (a0 :: b :: r) (.ref x :: st) Z kc ks := by
  obtain ⟨p, l', e, Rm, s, m, args, below, meth, c, Q⟩ := X
  obtain ⟨-, hx, hb, hown, hts, -⟩ := hc
  exact fun H locs cells slots ls hZ hS hcl hsl hl => lv_astore_n hx hb d rfl hl.has (by simp only [List.length_cons]; omega) rfl (fun ls' hl' => k H locs cells slots ls' hZ hS hcl hsl (wt_lv.st1 hn (by simp only [List.length_cons]; omega) hl'))
theorem wt_astoreN_1 {pc : Nat} {a0 : Option Value} {b : Option Value} {r : List (Option Value)} (hc : wt_Cx l G X y cc nL fr) (d : decode cc pc = .ok (.astore_n 1, 1)) (hn : wt_nl (a0 :: b :: r) 1 = true) (k : wt_V G X (pc + 1) (a0 :: some (.null) :: r) st Z kc ks) : wt_V G X pc (a0 :: b :: r) (.null :: st) Z kc ks := by
  obtain ⟨p, l', e, Rm, s, m, args, below, meth, c, Q⟩ := X
  obtain ⟨-, hx, hb, hown, hts, -⟩ := hc
  exact fun H locs cells slots ls hZ hS hcl hsl hl => lv_astore_nN hx hb d rfl hl.has (by simp only [List.length_cons]; omega) rfl (fun ls' hl' => k H locs cells slots ls' hZ hS hcl hsl (wt_lv.st1 hn (by simp only [List.length_cons]; omega) hl'))
theorem wt_lstore_1 {pc : Nat} {a0 : Option Value} {b b2 : Option Value} {r : List (Option Value)} {x : Int64} (hc : wt_Cx l G X y cc nL fr) (d : decode cc pc = .ok (.lstore_n 1, 1)) (hn : wt_nl (a0 :: b :: b2 :: r) 1 = true) (k : wt_V G X (pc + 1) (a0 :: some (.long x) :: none :: r) st Z kc ks) : wt_V G X pc (a0 :: b :: b2 :: r) (.long x :: st) Z kc ks := by
  obtain ⟨p, l', e, Rm, s, m, args, below, meth, c, Q⟩ := X
  obtain ⟨-, hx, hb, hown, hts, -⟩ := hc
  exact fun H locs cells slots ls hZ hS hcl hsl hl => lv_lstore_n hx hb d rfl hl.has (by simp only [List.length_cons]; omega) rfl (fun ls' hl' => k H locs cells slots ls' hZ hS hcl hsl (wt_lv.st2 hn (by simp only [List.length_cons]; omega) hl'))
theorem wt_iinc_1 {pc : Nat} {a0 : Option Value} {r : List (Option Value)} {n : Int} {x v : Int32} (hc : wt_Cx l G X y cc nL fr) (d : decode cc pc = .ok (.iinc 1 n, 3)) (hv : x + Int32.ofInt n = v) (hn : wt_nl (a0 :: some (.int x) :: r) 1 = true) (k : wt_V G X (pc + 3) (a0 :: some (.int v) :: r) st Z kc ks) : wt_V G X pc (a0 :: some (.int x) :: r) st Z kc ks := by
  obtain ⟨p, l', e, Rm, s, m, args, below, meth, c, Q⟩ := X
  obtain ⟨-, hx, hb, hown, hts, -⟩ := hc
  intro H locs cells slots ls hZ hS hcl hsl hl
  have h1 : lv_has ls (a0 :: some (.int x) :: r).length (((1, Value.int x)) :: wt_as 0 (a0 :: some (.int x) :: r)) := by
    refine ⟨hl.1, hl.2.1, fun q hq => ?_⟩
    rcases List.mem_cons.mp hq with rfl | hq
    · exact hl.2.2 1 _ (by rfl)
    · exact hl.has.2.2 q hq
  refine lv_iinc (k := 0) hx hb d h1 rfl hv (by simp only [List.length_cons]; omega) rfl (fun ls' hl' => k H locs cells slots ls' hZ hS hcl hsl (wt_lv.st1 hn (by simp only [List.length_cons]; omega) ?_))
  refine wt_has_sub hl' (fun q hq => ?_)
  rcases List.mem_cons.mp hq with rfl | hq
  · exact List.mem_cons_self
  · exact List.mem_cons_of_mem _ (List.mem_filter.mpr ⟨List.mem_cons_of_mem _ (List.mem_filter.mp hq).1, (List.mem_filter.mp hq).2⟩)
theorem wt_iload_2 {pc : Nat} {a0 a1 : Option Value} {r : List (Option Value)} {x : Int32} (hc : wt_Cx l G X y cc nL fr) (d : decode cc pc = .ok (.iload_n 2, 1)) (k : wt_V G X (pc + 1) (a0 :: a1 :: some (.int x) :: r) (.int x :: st) Z kc ks) : wt_V G X pc (a0 :: a1 :: some (.int x) :: r) st Z kc ks := by
  obtain ⟨p, l', e, Rm, s, m, args, below, meth, c, Q⟩ := X
  obtain ⟨-, hx, hb, hown, hts, -⟩ := hc
  exact fun H locs cells slots ls hZ hS hcl hsl hl => lv_iload_n hx hb d rfl (hl.2.2 2 (.int x) (by rfl)) (k H locs cells slots ls hZ hS hcl hsl hl)
theorem wt_lload_2 {pc : Nat} {a0 a1 : Option Value} {r : List (Option Value)} {x : Int64} (hc : wt_Cx l G X y cc nL fr) (d : decode cc pc = .ok (.lload_n 2, 1)) (k : wt_V G X (pc + 1) (a0 :: a1 :: some (.long x) :: r) (.long x :: st) Z kc ks) : wt_V G X pc (a0 :: a1 :: some (.long x) :: r) st Z kc ks := by
  obtain ⟨p, l', e, Rm, s, m, args, below, meth, c, Q⟩ := X
  obtain ⟨-, hx, hb, hown, hts, -⟩ := hc
  exact fun H locs cells slots ls hZ hS hcl hsl hl => lv_lload_n hx hb d rfl (hl.2.2 2 (.long x) (by rfl)) (k H locs cells slots ls hZ hS hcl hsl hl)
theorem wt_aload_2 {pc : Nat} {a0 a1 : Option Value} {r : List (Option Value)} {x : Nat} (hc : wt_Cx l G X y cc nL fr) (d : decode cc pc = .ok (.aload_n 2, 1)) (k : wt_V G X (pc + 1) (a0 :: a1 :: some (.ref x) :: r) (.ref x :: st) Z kc ks) : wt_V G X pc (a0 :: a1 :: some (.ref x) :: r) st Z kc ks := by
  obtain ⟨p, l', e, Rm, s, m, args, below, meth, c, Q⟩ := X
  obtain ⟨-, hx, hb, hown, hts, -⟩ := hc
  exact fun H locs cells slots ls hZ hS hcl hsl hl => lv_aload_n hx hb d rfl (hl.2.2 2 (.ref x) (by rfl)) (k H locs cells slots ls hZ hS hcl hsl hl)
theorem wt_aloadN_2 {pc : Nat} {a0 a1 : Option Value} {r : List (Option Value)} (hc : wt_Cx l G X y cc nL fr) (d : decode cc pc = .ok (.aload_n 2, 1)) (k : wt_V G X (pc + 1) (a0 :: a1 :: some .null :: r) (.null :: st) Z kc ks) : wt_V G X pc (a0 :: a1 :: some .null :: r) st Z kc ks := by
  obtain ⟨p, l', e, Rm, s, m, args, below, meth, c, Q⟩ := X
  obtain ⟨-, hx, hb, hown, hts, -⟩ := hc
  exact fun H locs cells slots ls hZ hS hcl hsl hl => lv_aload_nN hx hb d rfl (hl.2.2 2 .null (by rfl)) (k H locs cells slots ls hZ hS hcl hsl hl)
theorem wt_istore_2 {pc : Nat} {a0 a1 : Option Value} {b : Option Value} {r : List (Option Value)} {x : Int32} (hc : wt_Cx l G X y cc nL fr) (d : decode cc pc = .ok (.istore_n 2, 1)) (hn : wt_nl (a0 :: a1 :: b :: r) 2 = true) (k : wt_V G X (pc + 1) (a0 :: a1 :: some (.int x) :: r) st Z kc ks) : wt_V G X pc (a0 :: a1 :: b :: r) (.int x :: st) Z kc ks := by
  obtain ⟨p, l', e, Rm, s, m, args, below, meth, c, Q⟩ := X
  obtain ⟨-, hx, hb, hown, hts, -⟩ := hc
  exact fun H locs cells slots ls hZ hS hcl hsl hl => lv_istore_n hx hb d rfl hl.has (by simp only [List.length_cons]; omega) rfl (fun ls' hl' => k H locs cells slots ls' hZ hS hcl hsl (wt_lv.st1 hn (by simp only [List.length_cons]; omega) hl'))
theorem wt_astore_2 {pc : Nat} {a0 a1 : Option Value} {b : Option Value} {r : List (Option Value)} {x : Nat} (hc : wt_Cx l G X y cc nL fr) (d : decode cc pc = .ok (.astore_n 2, 1)) (hn : wt_nl (a0 :: a1 :: b :: r) 2 = true) (k : wt_V G X (pc + 1) (a0 :: a1 :: some (.ref x) :: r) st Z kc ks) : wt_V G X pc (a0 :: a1 :: b :: r) (.ref x :: st) Z kc ks := by
  obtain ⟨p, l', e, Rm, s, m, args, below, meth, c, Q⟩ := X
  obtain ⟨-, hx, hb, hown, hts, -⟩ := hc
  exact fun H locs cells slots ls hZ hS hcl hsl hl => lv_astore_n hx hb d rfl hl.has (by simp only [List.length_cons]; omega) rfl (fun ls' hl' => k H locs cells slots ls' hZ hS hcl hsl (wt_lv.st1 hn (by simp only [List.length_cons]; omega) hl'))
theorem wt_astoreN_2 {pc : Nat} {a0 a1 : Option Value} {b : Option Value} {r : List (Option Value)} (hc : wt_Cx l G X y cc nL fr) (d : decode cc pc = .ok (.astore_n 2, 1)) (hn : wt_nl (a0 :: a1 :: b :: r) 2 = true) (k : wt_V G X (pc + 1) (a0 :: a1 :: some (.null) :: r) st Z kc ks) : wt_V G X pc (a0 :: a1 :: b :: r) (.null :: st) Z kc ks := by
  obtain ⟨p, l', e, Rm, s, m, args, below, meth, c, Q⟩ := X
  obtain ⟨-, hx, hb, hown, hts, -⟩ := hc
  exact fun H locs cells slots ls hZ hS hcl hsl hl => lv_astore_nN hx hb d rfl hl.has (by simp only [List.length_cons]; omega) rfl (fun ls' hl' => k H locs cells slots ls' hZ hS hcl hsl (wt_lv.st1 hn (by simp only [List.length_cons]; omega) hl'))
theorem wt_lstore_2 {pc : Nat} {a0 a1 : Option Value} {b b2 : Option Value} {r : List (Option Value)} {x : Int64} (hc : wt_Cx l G X y cc nL fr) (d : decode cc pc = .ok (.lstore_n 2, 1)) (hn : wt_nl (a0 :: a1 :: b :: b2 :: r) 2 = true) (k : wt_V G X (pc + 1) (a0 :: a1 :: some (.long x) :: none :: r) st Z kc ks) : wt_V G X pc (a0 :: a1 :: b :: b2 :: r) (.long x :: st) Z kc ks := by
  obtain ⟨p, l', e, Rm, s, m, args, below, meth, c, Q⟩ := X
  obtain ⟨-, hx, hb, hown, hts, -⟩ := hc
  exact fun H locs cells slots ls hZ hS hcl hsl hl => lv_lstore_n hx hb d rfl hl.has (by simp only [List.length_cons]; omega) rfl (fun ls' hl' => k H locs cells slots ls' hZ hS hcl hsl (wt_lv.st2 hn (by simp only [List.length_cons]; omega) hl'))
theorem wt_iinc_2 {pc : Nat} {a0 a1 : Option Value} {r : List (Option Value)} {n : Int} {x v : Int32} (hc : wt_Cx l G X y cc nL fr) (d : decode cc pc = .ok (.iinc 2 n, 3)) (hv : x + Int32.ofInt n = v) (hn : wt_nl (a0 :: a1 :: some (.int x) :: r) 2 = true) (k : wt_V G X (pc + 3) (a0 :: a1 :: some (.int v) :: r) st Z kc ks) : wt_V G X pc (a0 :: a1 :: some (.int x) :: r) st Z kc ks := by
  obtain ⟨p, l', e, Rm, s, m, args, below, meth, c, Q⟩ := X
  obtain ⟨-, hx, hb, hown, hts, -⟩ := hc
  intro H locs cells slots ls hZ hS hcl hsl hl
  have h1 : lv_has ls (a0 :: a1 :: some (.int x) :: r).length (((2, Value.int x)) :: wt_as 0 (a0 :: a1 :: some (.int x) :: r)) := by
    refine ⟨hl.1, hl.2.1, fun q hq => ?_⟩
    rcases List.mem_cons.mp hq with rfl | hq
    · exact hl.2.2 2 _ (by rfl)
    · exact hl.has.2.2 q hq
  refine lv_iinc (k := 0) hx hb d h1 rfl hv (by simp only [List.length_cons]; omega) rfl (fun ls' hl' => k H locs cells slots ls' hZ hS hcl hsl (wt_lv.st1 hn (by simp only [List.length_cons]; omega) ?_))
  refine wt_has_sub hl' (fun q hq => ?_)
  rcases List.mem_cons.mp hq with rfl | hq
  · exact List.mem_cons_self
  · exact List.mem_cons_of_mem _ (List.mem_filter.mpr ⟨List.mem_cons_of_mem _ (List.mem_filter.mp hq).1, (List.mem_filter.mp hq).2⟩)
theorem wt_iload_3 {pc : Nat} {a0 a1 a2 : Option Value} {r : List (Option Value)} {x : Int32} (hc : wt_Cx l G X y cc nL fr) (d : decode cc pc = .ok (.iload_n 3, 1)) (k : wt_V G X (pc + 1) (a0 :: a1 :: a2 :: some (.int x) :: r) (.int x :: st) Z kc ks) : wt_V G X pc (a0 :: a1 :: a2 :: some (.int x) :: r) st Z kc ks := by
  obtain ⟨p, l', e, Rm, s, m, args, below, meth, c, Q⟩ := X
  obtain ⟨-, hx, hb, hown, hts, -⟩ := hc
  exact fun H locs cells slots ls hZ hS hcl hsl hl => lv_iload_n hx hb d rfl (hl.2.2 3 (.int x) (by rfl)) (k H locs cells slots ls hZ hS hcl hsl hl)
theorem wt_lload_3 {pc : Nat} {a0 a1 a2 : Option Value} {r : List (Option Value)} {x : Int64} (hc : wt_Cx l G X y cc nL fr) (d : decode cc pc = .ok (.lload_n 3, 1)) (k : wt_V G X (pc + 1) (a0 :: a1 :: a2 :: some (.long x) :: r) (.long x :: st) Z kc ks) : wt_V G X pc (a0 :: a1 :: a2 :: some (.long x) :: r) st Z kc ks := by
  obtain ⟨p, l', e, Rm, s, m, args, below, meth, c, Q⟩ := X
  obtain ⟨-, hx, hb, hown, hts, -⟩ := hc
  exact fun H locs cells slots ls hZ hS hcl hsl hl => lv_lload_n hx hb d rfl (hl.2.2 3 (.long x) (by rfl)) (k H locs cells slots ls hZ hS hcl hsl hl)
theorem wt_aload_3 {pc : Nat} {a0 a1 a2 : Option Value} {r : List (Option Value)} {x : Nat} (hc : wt_Cx l G X y cc nL fr) (d : decode cc pc = .ok (.aload_n 3, 1)) (k : wt_V G X (pc + 1) (a0 :: a1 :: a2 :: some (.ref x) :: r) (.ref x :: st) Z kc ks) : wt_V G X pc (a0 :: a1 :: a2 :: some (.ref x) :: r) st Z kc ks := by
  obtain ⟨p, l', e, Rm, s, m, args, below, meth, c, Q⟩ := X
  obtain ⟨-, hx, hb, hown, hts, -⟩ := hc
  exact fun H locs cells slots ls hZ hS hcl hsl hl => lv_aload_n hx hb d rfl (hl.2.2 3 (.ref x) (by rfl)) (k H locs cells slots ls hZ hS hcl hsl hl)
theorem wt_aloadN_3 {pc : Nat} {a0 a1 a2 : Option Value} {r : List (Option Value)} (hc : wt_Cx l G X y cc nL fr) (d : decode cc pc = .ok (.aload_n 3, 1)) (k : wt_V G X (pc + 1) (a0 :: a1 :: a2 :: some .null :: r) (.null :: st) Z kc ks) : wt_V G X pc (a0 :: a1 :: a2 :: some .null :: r) st Z kc ks := by
  obtain ⟨p, l', e, Rm, s, m, args, below, meth, c, Q⟩ := X
  obtain ⟨-, hx, hb, hown, hts, -⟩ := hc
  exact fun H locs cells slots ls hZ hS hcl hsl hl => lv_aload_nN hx hb d rfl (hl.2.2 3 .null (by rfl)) (k H locs cells slots ls hZ hS hcl hsl hl)
theorem wt_istore_3 {pc : Nat} {a0 a1 a2 : Option Value} {b : Option Value} {r : List (Option Value)} {x : Int32} (hc : wt_Cx l G X y cc nL fr) (d : decode cc pc = .ok (.istore_n 3, 1)) (hn : wt_nl (a0 :: a1 :: a2 :: b :: r) 3 = true) (k : wt_V G X (pc + 1) (a0 :: a1 :: a2 :: some (.int x) :: r) st Z kc ks) : wt_V G X pc (a0 :: a1 :: a2 :: b :: r) (.int x :: st) Z kc ks := by
  obtain ⟨p, l', e, Rm, s, m, args, below, meth, c, Q⟩ := X
  obtain ⟨-, hx, hb, hown, hts, -⟩ := hc
  exact fun H locs cells slots ls hZ hS hcl hsl hl => lv_istore_n hx hb d rfl hl.has (by simp only [List.length_cons]; omega) rfl (fun ls' hl' => k H locs cells slots ls' hZ hS hcl hsl (wt_lv.st1 hn (by simp only [List.length_cons]; omega) hl'))
theorem wt_astore_3 {pc : Nat} {a0 a1 a2 : Option Value} {b : Option Value} {r : List (Option Value)} {x : Nat} (hc : wt_Cx l G X y cc nL fr) (d : decode cc pc = .ok (.astore_n 3, 1)) (hn : wt_nl (a0 :: a1 :: a2 :: b :: r) 3 = true) (k : wt_V G X (pc + 1) (a0 :: a1 :: a2 :: some (.ref x) :: r) st Z kc ks) : wt_V G X pc (a0 :: a1 :: a2 :: b :: r) (.ref x :: st) Z kc ks := by
  obtain ⟨p, l', e, Rm, s, m, args, below, meth, c, Q⟩ := X
  obtain ⟨-, hx, hb, hown, hts, -⟩ := hc
  exact fun H locs cells slots ls hZ hS hcl hsl hl => lv_astore_n hx hb d rfl hl.has (by simp only [List.length_cons]; omega) rfl (fun ls' hl' => k H locs cells slots ls' hZ hS hcl hsl (wt_lv.st1 hn (by simp only [List.length_cons]; omega) hl'))
theorem wt_astoreN_3 {pc : Nat} {a0 a1 a2 : Option Value} {b : Option Value} {r : List (Option Value)} (hc : wt_Cx l G X y cc nL fr) (d : decode cc pc = .ok (.astore_n 3, 1)) (hn : wt_nl (a0 :: a1 :: a2 :: b :: r) 3 = true) (k : wt_V G X (pc + 1) (a0 :: a1 :: a2 :: some (.null) :: r) st Z kc ks) : wt_V G X pc (a0 :: a1 :: a2 :: b :: r) (.null :: st) Z kc ks := by
  obtain ⟨p, l', e, Rm, s, m, args, below, meth, c, Q⟩ := X
  obtain ⟨-, hx, hb, hown, hts, -⟩ := hc
  exact fun H locs cells slots ls hZ hS hcl hsl hl => lv_astore_nN hx hb d rfl hl.has (by simp only [List.length_cons]; omega) rfl (fun ls' hl' => k H locs cells slots ls' hZ hS hcl hsl (wt_lv.st1 hn (by simp only [List.length_cons]; omega) hl'))
theorem wt_lstore_3 {pc : Nat} {a0 a1 a2 : Option Value} {b b2 : Option Value} {r : List (Option Value)} {x : Int64} (hc : wt_Cx l G X y cc nL fr) (d : decode cc pc = .ok (.lstore_n 3, 1)) (hn : wt_nl (a0 :: a1 :: a2 :: b :: b2 :: r) 3 = true) (k : wt_V G X (pc + 1) (a0 :: a1 :: a2 :: some (.long x) :: none :: r) st Z kc ks) : wt_V G X pc (a0 :: a1 :: a2 :: b :: b2 :: r) (.long x :: st) Z kc ks := by
  obtain ⟨p, l', e, Rm, s, m, args, below, meth, c, Q⟩ := X
  obtain ⟨-, hx, hb, hown, hts, -⟩ := hc
  exact fun H locs cells slots ls hZ hS hcl hsl hl => lv_lstore_n hx hb d rfl hl.has (by simp only [List.length_cons]; omega) rfl (fun ls' hl' => k H locs cells slots ls' hZ hS hcl hsl (wt_lv.st2 hn (by simp only [List.length_cons]; omega) hl'))
theorem wt_iinc_3 {pc : Nat} {a0 a1 a2 : Option Value} {r : List (Option Value)} {n : Int} {x v : Int32} (hc : wt_Cx l G X y cc nL fr) (d : decode cc pc = .ok (.iinc 3 n, 3)) (hv : x + Int32.ofInt n = v) (hn : wt_nl (a0 :: a1 :: a2 :: some (.int x) :: r) 3 = true) (k : wt_V G X (pc + 3) (a0 :: a1 :: a2 :: some (.int v) :: r) st Z kc ks) : wt_V G X pc (a0 :: a1 :: a2 :: some (.int x) :: r) st Z kc ks := by
  obtain ⟨p, l', e, Rm, s, m, args, below, meth, c, Q⟩ := X
  obtain ⟨-, hx, hb, hown, hts, -⟩ := hc
  intro H locs cells slots ls hZ hS hcl hsl hl
  have h1 : lv_has ls (a0 :: a1 :: a2 :: some (.int x) :: r).length (((3, Value.int x)) :: wt_as 0 (a0 :: a1 :: a2 :: some (.int x) :: r)) := by
    refine ⟨hl.1, hl.2.1, fun q hq => ?_⟩
    rcases List.mem_cons.mp hq with rfl | hq
    · exact hl.2.2 3 _ (by rfl)
    · exact hl.has.2.2 q hq
  refine lv_iinc (k := 0) hx hb d h1 rfl hv (by simp only [List.length_cons]; omega) rfl (fun ls' hl' => k H locs cells slots ls' hZ hS hcl hsl (wt_lv.st1 hn (by simp only [List.length_cons]; omega) ?_))
  refine wt_has_sub hl' (fun q hq => ?_)
  rcases List.mem_cons.mp hq with rfl | hq
  · exact List.mem_cons_self
  · exact List.mem_cons_of_mem _ (List.mem_filter.mpr ⟨List.mem_cons_of_mem _ (List.mem_filter.mp hq).1, (List.mem_filter.mp hq).2⟩)
theorem wt_iload_4 {pc : Nat} {a0 a1 a2 a3 : Option Value} {r : List (Option Value)} {x : Int32} (hc : wt_Cx l G X y cc nL fr) (d : decode cc pc = .ok (.iload 4, 2)) (k : wt_V G X (pc + 2) (a0 :: a1 :: a2 :: a3 :: some (.int x) :: r) (.int x :: st) Z kc ks) : wt_V G X pc (a0 :: a1 :: a2 :: a3 :: some (.int x) :: r) st Z kc ks := by
  obtain ⟨p, l', e, Rm, s, m, args, below, meth, c, Q⟩ := X
  obtain ⟨-, hx, hb, hown, hts, -⟩ := hc
  exact fun H locs cells slots ls hZ hS hcl hsl hl => lv_iload hx hb d (hl.2.2 4 (.int x) (by rfl)) (k H locs cells slots ls hZ hS hcl hsl hl)
theorem wt_lload_4 {pc : Nat} {a0 a1 a2 a3 : Option Value} {r : List (Option Value)} {x : Int64} (hc : wt_Cx l G X y cc nL fr) (d : decode cc pc = .ok (.lload 4, 2)) (k : wt_V G X (pc + 2) (a0 :: a1 :: a2 :: a3 :: some (.long x) :: r) (.long x :: st) Z kc ks) : wt_V G X pc (a0 :: a1 :: a2 :: a3 :: some (.long x) :: r) st Z kc ks := by
  obtain ⟨p, l', e, Rm, s, m, args, below, meth, c, Q⟩ := X
  obtain ⟨-, hx, hb, hown, hts, -⟩ := hc
  exact fun H locs cells slots ls hZ hS hcl hsl hl => lv_lload hx hb d (hl.2.2 4 (.long x) (by rfl)) (k H locs cells slots ls hZ hS hcl hsl hl)
theorem wt_aload_4 {pc : Nat} {a0 a1 a2 a3 : Option Value} {r : List (Option Value)} {x : Nat} (hc : wt_Cx l G X y cc nL fr) (d : decode cc pc = .ok (.aload 4, 2)) (k : wt_V G X (pc + 2) (a0 :: a1 :: a2 :: a3 :: some (.ref x) :: r) (.ref x :: st) Z kc ks) : wt_V G X pc (a0 :: a1 :: a2 :: a3 :: some (.ref x) :: r) st Z kc ks := by
  obtain ⟨p, l', e, Rm, s, m, args, below, meth, c, Q⟩ := X
  obtain ⟨-, hx, hb, hown, hts, -⟩ := hc
  exact fun H locs cells slots ls hZ hS hcl hsl hl => lv_aload hx hb d (hl.2.2 4 (.ref x) (by rfl)) (k H locs cells slots ls hZ hS hcl hsl hl)
theorem wt_aloadN_4 {pc : Nat} {a0 a1 a2 a3 : Option Value} {r : List (Option Value)} (hc : wt_Cx l G X y cc nL fr) (d : decode cc pc = .ok (.aload 4, 2)) (k : wt_V G X (pc + 2) (a0 :: a1 :: a2 :: a3 :: some .null :: r) (.null :: st) Z kc ks) : wt_V G X pc (a0 :: a1 :: a2 :: a3 :: some .null :: r) st Z kc ks := by
  obtain ⟨p, l', e, Rm, s, m, args, below, meth, c, Q⟩ := X
  obtain ⟨-, hx, hb, hown, hts, -⟩ := hc
  exact fun H locs cells slots ls hZ hS hcl hsl hl => lv_aloadN hx hb d (hl.2.2 4 .null (by rfl)) (k H locs cells slots ls hZ hS hcl hsl hl)
theorem wt_istore_4 {pc : Nat} {a0 a1 a2 a3 : Option Value} {b : Option Value} {r : List (Option Value)} {x : Int32} (hc : wt_Cx l G X y cc nL fr) (d : decode cc pc = .ok (.istore 4, 2)) (hn : wt_nl (a0 :: a1 :: a2 :: a3 :: b :: r) 4 = true) (k : wt_V G X (pc + 2) (a0 :: a1 :: a2 :: a3 :: some (.int x) :: r) st Z kc ks) : wt_V G X pc (a0 :: a1 :: a2 :: a3 :: b :: r) (.int x :: st) Z kc ks := by
  obtain ⟨p, l', e, Rm, s, m, args, below, meth, c, Q⟩ := X
  obtain ⟨-, hx, hb, hown, hts, -⟩ := hc
  exact fun H locs cells slots ls hZ hS hcl hsl hl => lv_istore hx hb d hl.has (by simp only [List.length_cons]; omega) rfl (fun ls' hl' => k H locs cells slots ls' hZ hS hcl hsl (wt_lv.st1 hn (by simp only [List.length_cons]; omega) hl'))
theorem wt_astore_4 {pc : Nat} {a0 a1 a2 a3 : Option Value} {b : Option Value} {r : List (Option Value)} {x : Nat} (hc : wt_Cx l G X y cc nL fr) (d : decode cc pc = .ok (.astore 4, 2)) (hn : wt_nl (a0 :: a1 :: a2 :: a3 :: b :: r) 4 = true) (k : wt_V G X (pc + 2) (a0 :: a1 :: a2 :: a3 :: some (.ref x) :: r) st Z kc ks) : wt_V G X pc (a0 :: a1 :: a2 :: a3 :: b :: r) (.ref x :: st) Z kc ks := by
  obtain ⟨p, l', e, Rm, s, m, args, below, meth, c, Q⟩ := X
  obtain ⟨-, hx, hb, hown, hts, -⟩ := hc
  exact fun H locs cells slots ls hZ hS hcl hsl hl => lv_astore hx hb d hl.has (by simp only [List.length_cons]; omega) rfl (fun ls' hl' => k H locs cells slots ls' hZ hS hcl hsl (wt_lv.st1 hn (by simp only [List.length_cons]; omega) hl'))
theorem wt_astoreN_4 {pc : Nat} {a0 a1 a2 a3 : Option Value} {b : Option Value} {r : List (Option Value)} (hc : wt_Cx l G X y cc nL fr) (d : decode cc pc = .ok (.astore 4, 2)) (hn : wt_nl (a0 :: a1 :: a2 :: a3 :: b :: r) 4 = true) (k : wt_V G X (pc + 2) (a0 :: a1 :: a2 :: a3 :: some (.null) :: r) st Z kc ks) : wt_V G X pc (a0 :: a1 :: a2 :: a3 :: b :: r) (.null :: st) Z kc ks := by
  obtain ⟨p, l', e, Rm, s, m, args, below, meth, c, Q⟩ := X
  obtain ⟨-, hx, hb, hown, hts, -⟩ := hc
  exact fun H locs cells slots ls hZ hS hcl hsl hl => lv_astoreN hx hb d hl.has (by simp only [List.length_cons]; omega) rfl (fun ls' hl' => k H locs cells slots ls' hZ hS hcl hsl (wt_lv.st1 hn (by simp only [List.length_cons]; omega) hl'))
theorem wt_lstore_4 {pc : Nat} {a0 a1 a2 a3 : Option Value} {b b2 : Option Value} {r : List (Option Value)} {x : Int64} (hc : wt_Cx l G X y cc nL fr) (d : decode cc pc = .ok (.lstore 4, 2)) (hn : wt_nl (a0 :: a1 :: a2 :: a3 :: b :: b2 :: r) 4 = true) (k : wt_V G X (pc + 2) (a0 :: a1 :: a2 :: a3 :: some (.long x) :: none :: r) st Z kc ks) : wt_V G X pc (a0 :: a1 :: a2 :: a3 :: b :: b2 :: r) (.long x :: st) Z kc ks := by
  obtain ⟨p, l', e, Rm, s, m, args, below, meth, c, Q⟩ := X
  obtain ⟨-, hx, hb, hown, hts, -⟩ := hc
  exact fun H locs cells slots ls hZ hS hcl hsl hl => lv_lstore hx hb d hl.has (by simp only [List.length_cons]; omega) rfl (fun ls' hl' => k H locs cells slots ls' hZ hS hcl hsl (wt_lv.st2 hn (by simp only [List.length_cons]; omega) hl'))
theorem wt_iinc_4 {pc : Nat} {a0 a1 a2 a3 : Option Value} {r : List (Option Value)} {n : Int} {x v : Int32} (hc : wt_Cx l G X y cc nL fr) (d : decode cc pc = .ok (.iinc 4 n, 3)) (hv : x + Int32.ofInt n = v) (hn : wt_nl (a0 :: a1 :: a2 :: a3 :: some (.int x) :: r) 4 = true) (k : wt_V G X (pc + 3) (a0 :: a1 :: a2 :: a3 :: some (.int v) :: r) st Z kc ks) : wt_V G X pc (a0 :: a1 :: a2 :: a3 :: some (.int x) :: r) st Z kc ks := by
  obtain ⟨p, l', e, Rm, s, m, args, below, meth, c, Q⟩ := X
  obtain ⟨-, hx, hb, hown, hts, -⟩ := hc
  intro H locs cells slots ls hZ hS hcl hsl hl
  have h1 : lv_has ls (a0 :: a1 :: a2 :: a3 :: some (.int x) :: r).length (((4, Value.int x)) :: wt_as 0 (a0 :: a1 :: a2 :: a3 :: some (.int x) :: r)) := by
    refine ⟨hl.1, hl.2.1, fun q hq => ?_⟩
    rcases List.mem_cons.mp hq with rfl | hq
    · exact hl.2.2 4 _ (by rfl)
    · exact hl.has.2.2 q hq
  refine lv_iinc (k := 0) hx hb d h1 rfl hv (by simp only [List.length_cons]; omega) rfl (fun ls' hl' => k H locs cells slots ls' hZ hS hcl hsl (wt_lv.st1 hn (by simp only [List.length_cons]; omega) ?_))
  refine wt_has_sub hl' (fun q hq => ?_)
  rcases List.mem_cons.mp hq with rfl | hq
  · exact List.mem_cons_self
  · exact List.mem_cons_of_mem _ (List.mem_filter.mpr ⟨List.mem_cons_of_mem _ (List.mem_filter.mp hq).1, (List.mem_filter.mp hq).2⟩)
theorem wt_iload_5 {pc : Nat} {a0 a1 a2 a3 a4 : Option Value} {r : List (Option Value)} {x : Int32} (hc : wt_Cx l G X y cc nL fr) (d : decode cc pc = .ok (.iload 5, 2)) (k : wt_V G X (pc + 2) (a0 :: a1 :: a2 :: a3 :: a4 :: some (.int x) :: r) (.int x :: st) Z kc ks) : wt_V G X pc (a0 :: a1 :: a2 :: a3 :: a4 :: some (.int x) :: r) st Z kc ks := by
  obtain ⟨p, l', e, Rm, s, m, args, below, meth, c, Q⟩ := X
  obtain ⟨-, hx, hb, hown, hts, -⟩ := hc
  exact fun H locs cells slots ls hZ hS hcl hsl hl => lv_iload hx hb d (hl.2.2 5 (.int x) (by rfl)) (k H locs cells slots ls hZ hS hcl hsl hl)
theorem wt_lload_5 {pc : Nat} {a0 a1 a2 a3 a4 : Option Value} {r : List (Option Value)} {x : Int64} (hc : wt_Cx l G X y cc nL fr) (d : decode cc pc = .ok (.lload 5, 2)) (k : wt_V G X (pc + 2) (a0 :: a1 :: a2 :: a3 :: a4 :: some (.long x) :: r) (.long x :: st) Z kc ks) : wt_V G X pc (a0 :: a1 :: a2 :: a3 :: a4 :: some (.long x) :: r) st Z kc ks := by
  obtain ⟨p, l', e, Rm, s, m, args, below, meth, c, Q⟩ := X
  obtain ⟨-, hx, hb, hown, hts, -⟩ := hc
  exact fun H locs cells slots ls hZ hS hcl hsl hl => lv_lload hx hb d (hl.2.2 5 (.long x) (by rfl)) (k H locs cells slots ls hZ hS hcl hsl hl)
theorem wt_aload_5 {pc : Nat} {a0 a1 a2 a3 a4 : Option Value} {r : List (Option Value)} {x : Nat} (hc : wt_Cx l G X y cc nL fr) (d : decode cc pc = .ok (.aload 5, 2)) (k : wt_V G X (pc + 2) (a0 :: a1 :: a2 :: a3 :: a4 :: some (.ref x) :: r) (.ref x :: st) Z kc ks) : wt_V G X pc (a0 :: a1 :: a2 :: a3 :: a4 :: some (.ref x) :: r) st Z kc ks := by
  obtain ⟨p, l', e, Rm, s, m, args, below, meth, c, Q⟩ := X
  obtain ⟨-, hx, hb, hown, hts, -⟩ := hc
  exact fun H locs cells slots ls hZ hS hcl hsl hl => lv_aload hx hb d (hl.2.2 5 (.ref x) (by rfl)) (k H locs cells slots ls hZ hS hcl hsl hl)
theorem wt_aloadN_5 {pc : Nat} {a0 a1 a2 a3 a4 : Option Value} {r : List (Option Value)} (hc : wt_Cx l G X y cc nL fr) (d : decode cc pc = .ok (.aload 5, 2)) (k : wt_V G X (pc + 2) (a0 :: a1 :: a2 :: a3 :: a4 :: some .null :: r) (.null :: st) Z kc ks) : wt_V G X pc (a0 :: a1 :: a2 :: a3 :: a4 :: some .null :: r) st Z kc ks := by
  obtain ⟨p, l', e, Rm, s, m, args, below, meth, c, Q⟩ := X
  obtain ⟨-, hx, hb, hown, hts, -⟩ := hc
  exact fun H locs cells slots ls hZ hS hcl hsl hl => lv_aloadN hx hb d (hl.2.2 5 .null (by rfl)) (k H locs cells slots ls hZ hS hcl hsl hl)
theorem wt_istore_5 {pc : Nat} {a0 a1 a2 a3 a4 : Option Value} {b : Option Value} {r : List (Option Value)} {x : Int32} (hc : wt_Cx l G X y cc nL fr) (d : decode cc pc = .ok (.istore 5, 2)) (hn : wt_nl (a0 :: a1 :: a2 :: a3 :: a4 :: b :: r) 5 = true) (k : wt_V G X (pc + 2) (a0 :: a1 :: a2 :: a3 :: a4 :: some (.int x) :: r) st Z kc ks) : wt_V G X pc (a0 :: a1 :: a2 :: a3 :: a4 :: b :: r) (.int x :: st) Z kc ks := by
  obtain ⟨p, l', e, Rm, s, m, args, below, meth, c, Q⟩ := X
  obtain ⟨-, hx, hb, hown, hts, -⟩ := hc
  exact fun H locs cells slots ls hZ hS hcl hsl hl => lv_istore hx hb d hl.has (by simp only [List.length_cons]; omega) rfl (fun ls' hl' => k H locs cells slots ls' hZ hS hcl hsl (wt_lv.st1 hn (by simp only [List.length_cons]; omega) hl'))
theorem wt_astore_5 {pc : Nat} {a0 a1 a2 a3 a4 : Option Value} {b : Option Value} {r : List (Option Value)} {x : Nat} (hc : wt_Cx l G X y cc nL fr) (d : decode cc pc = .ok (.astore 5, 2)) (hn : wt_nl (a0 :: a1 :: a2 :: a3 :: a4 :: b :: r) 5 = true) (k : wt_V G X (pc + 2) (a0 :: a1 :: a2 :: a3 :: a4 :: some (.ref x) :: r) st Z kc ks) : wt_V G X pc (a0 :: a1 :: a2 :: a3 :: a4 :: b :: r) (.ref x :: st) Z kc ks := by
  obtain ⟨p, l', e, Rm, s, m, args, below, meth, c, Q⟩ := X
  obtain ⟨-, hx, hb, hown, hts, -⟩ := hc
  exact fun H locs cells slots ls hZ hS hcl hsl hl => lv_astore hx hb d hl.has (by simp only [List.length_cons]; omega) rfl (fun ls' hl' => k H locs cells slots ls' hZ hS hcl hsl (wt_lv.st1 hn (by simp only [List.length_cons]; omega) hl'))
theorem wt_astoreN_5 {pc : Nat} {a0 a1 a2 a3 a4 : Option Value} {b : Option Value} {r : List (Option Value)} (hc : wt_Cx l G X y cc nL fr) (d : decode cc pc = .ok (.astore 5, 2)) (hn : wt_nl (a0 :: a1 :: a2 :: a3 :: a4 :: b :: r) 5 = true) (k : wt_V G X (pc + 2) (a0 :: a1 :: a2 :: a3 :: a4 :: some (.null) :: r) st Z kc ks) : wt_V G X pc (a0 :: a1 :: a2 :: a3 :: a4 :: b :: r) (.null :: st) Z kc ks := by
  obtain ⟨p, l', e, Rm, s, m, args, below, meth, c, Q⟩ := X
  obtain ⟨-, hx, hb, hown, hts, -⟩ := hc
  exact fun H locs cells slots ls hZ hS hcl hsl hl => lv_astoreN hx hb d hl.has (by simp only [List.length_cons]; omega) rfl (fun ls' hl' => k H locs cells slots ls' hZ hS hcl hsl (wt_lv.st1 hn (by simp only [List.length_cons]; omega) hl'))
theorem wt_lstore_5 {pc : Nat} {a0 a1 a2 a3 a4 : Option Value} {b b2 : Option Value} {r : List (Option Value)} {x : Int64} (hc : wt_Cx l G X y cc nL fr) (d : decode cc pc = .ok (.lstore 5, 2)) (hn : wt_nl (a0 :: a1 :: a2 :: a3 :: a4 :: b :: b2 :: r) 5 = true) (k : wt_V G X (pc + 2) (a0 :: a1 :: a2 :: a3 :: a4 :: some (.long x) :: none :: r) st Z kc ks) : wt_V G X pc (a0 :: a1 :: a2 :: a3 :: a4 :: b :: b2 :: r) (.long x :: st) Z kc ks := by
  obtain ⟨p, l', e, Rm, s, m, args, below, meth, c, Q⟩ := X
  obtain ⟨-, hx, hb, hown, hts, -⟩ := hc
  exact fun H locs cells slots ls hZ hS hcl hsl hl => lv_lstore hx hb d hl.has (by simp only [List.length_cons]; omega) rfl (fun ls' hl' => k H locs cells slots ls' hZ hS hcl hsl (wt_lv.st2 hn (by simp only [List.length_cons]; omega) hl'))
theorem wt_iinc_5 {pc : Nat} {a0 a1 a2 a3 a4 : Option Value} {r : List (Option Value)} {n : Int} {x v : Int32} (hc : wt_Cx l G X y cc nL fr) (d : decode cc pc = .ok (.iinc 5 n, 3)) (hv : x + Int32.ofInt n = v) (hn : wt_nl (a0 :: a1 :: a2 :: a3 :: a4 :: some (.int x) :: r) 5 = true) (k : wt_V G X (pc + 3) (a0 :: a1 :: a2 :: a3 :: a4 :: some (.int v) :: r) st Z kc ks) : wt_V G X pc (a0 :: a1 :: a2 :: a3 :: a4 :: some (.int x) :: r) st Z kc ks := by
  obtain ⟨p, l', e, Rm, s, m, args, below, meth, c, Q⟩ := X
  obtain ⟨-, hx, hb, hown, hts, -⟩ := hc
  intro H locs cells slots ls hZ hS hcl hsl hl
  have h1 : lv_has ls (a0 :: a1 :: a2 :: a3 :: a4 :: some (.int x) :: r).length (((5, Value.int x)) :: wt_as 0 (a0 :: a1 :: a2 :: a3 :: a4 :: some (.int x) :: r)) := by
    refine ⟨hl.1, hl.2.1, fun q hq => ?_⟩
    rcases List.mem_cons.mp hq with rfl | hq
    · exact hl.2.2 5 _ (by rfl)
    · exact hl.has.2.2 q hq
  refine lv_iinc (k := 0) hx hb d h1 rfl hv (by simp only [List.length_cons]; omega) rfl (fun ls' hl' => k H locs cells slots ls' hZ hS hcl hsl (wt_lv.st1 hn (by simp only [List.length_cons]; omega) ?_))
  refine wt_has_sub hl' (fun q hq => ?_)
  rcases List.mem_cons.mp hq with rfl | hq
  · exact List.mem_cons_self
  · exact List.mem_cons_of_mem _ (List.mem_filter.mpr ⟨List.mem_cons_of_mem _ (List.mem_filter.mp hq).1, (List.mem_filter.mp hq).2⟩)
theorem wt_iload_6 {pc : Nat} {a0 a1 a2 a3 a4 a5 : Option Value} {r : List (Option Value)} {x : Int32} (hc : wt_Cx l G X y cc nL fr) (d : decode cc pc = .ok (.iload 6, 2)) (k : wt_V G X (pc + 2) (a0 :: a1 :: a2 :: a3 :: a4 :: a5 :: some (.int x) :: r) (.int x :: st) Z kc ks) : wt_V G X pc (a0 :: a1 :: a2 :: a3 :: a4 :: a5 :: some (.int x) :: r) st Z kc ks := by
  obtain ⟨p, l', e, Rm, s, m, args, below, meth, c, Q⟩ := X
  obtain ⟨-, hx, hb, hown, hts, -⟩ := hc
  exact fun H locs cells slots ls hZ hS hcl hsl hl => lv_iload hx hb d (hl.2.2 6 (.int x) (by rfl)) (k H locs cells slots ls hZ hS hcl hsl hl)
theorem wt_lload_6 {pc : Nat} {a0 a1 a2 a3 a4 a5 : Option Value} {r : List (Option Value)} {x : Int64} (hc : wt_Cx l G X y cc nL fr) (d : decode cc pc = .ok (.lload 6, 2)) (k : wt_V G X (pc + 2) (a0 :: a1 :: a2 :: a3 :: a4 :: a5 :: some (.long x) :: r) (.long x :: st) Z kc ks) : wt_V G X pc (a0 :: a1 :: a2 :: a3 :: a4 :: a5 :: some (.long x) :: r) st Z kc ks := by
  obtain ⟨p, l', e, Rm, s, m, args, below, meth, c, Q⟩ := X
  obtain ⟨-, hx, hb, hown, hts, -⟩ := hc
  exact fun H locs cells slots ls hZ hS hcl hsl hl => lv_lload hx hb d (hl.2.2 6 (.long x) (by rfl)) (k H locs cells slots ls hZ hS hcl hsl hl)
theorem wt_aload_6 {pc : Nat} {a0 a1 a2 a3 a4 a5 : Option Value} {r : List (Option Value)} {x : Nat} (hc : wt_Cx l G X y cc nL fr) (d : decode cc pc = .ok (.aload 6, 2)) (k : wt_V G X (pc + 2) (a0 :: a1 :: a2 :: a3 :: a4 :: a5 :: some (.ref x) :: r) (.ref x :: st) Z kc ks) : wt_V G X pc (a0 :: a1 :: a2 :: a3 :: a4 :: a5 :: some (.ref x) :: r) st Z kc ks := by
  obtain ⟨p, l', e, Rm, s, m, args, below, meth, c, Q⟩ := X
  obtain ⟨-, hx, hb, hown, hts, -⟩ := hc
  exact fun H locs cells slots ls hZ hS hcl hsl hl => lv_aload hx hb d (hl.2.2 6 (.ref x) (by rfl)) (k H locs cells slots ls hZ hS hcl hsl hl)
theorem wt_aloadN_6 {pc : Nat} {a0 a1 a2 a3 a4 a5 : Option Value} {r : List (Option Value)} (hc : wt_Cx l G X y cc nL fr) (d : decode cc pc = .ok (.aload 6, 2)) (k : wt_V G X (pc + 2) (a0 :: a1 :: a2 :: a3 :: a4 :: a5 :: some .null :: r) (.null :: st) Z kc ks) : wt_V G X pc (a0 :: a1 :: a2 :: a3 :: a4 :: a5 :: some .null :: r) st Z kc ks := by
  obtain ⟨p, l', e, Rm, s, m, args, below, meth, c, Q⟩ := X
  obtain ⟨-, hx, hb, hown, hts, -⟩ := hc
  exact fun H locs cells slots ls hZ hS hcl hsl hl => lv_aloadN hx hb d (hl.2.2 6 .null (by rfl)) (k H locs cells slots ls hZ hS hcl hsl hl)
theorem wt_istore_6 {pc : Nat} {a0 a1 a2 a3 a4 a5 : Option Value} {b : Option Value} {r : List (Option Value)} {x : Int32} (hc : wt_Cx l G X y cc nL fr) (d : decode cc pc = .ok (.istore 6, 2)) (hn : wt_nl (a0 :: a1 :: a2 :: a3 :: a4 :: a5 :: b :: r) 6 = true) (k : wt_V G X (pc + 2) (a0 :: a1 :: a2 :: a3 :: a4 :: a5 :: some (.int x) :: r) st Z kc ks) : wt_V G X pc (a0 :: a1 :: a2 :: a3 :: a4 :: a5 :: b :: r) (.int x :: st) Z kc ks := by
  obtain ⟨p, l', e, Rm, s, m, args, below, meth, c, Q⟩ := X
  obtain ⟨-, hx, hb, hown, hts, -⟩ := hc
  exact fun H locs cells slots ls hZ hS hcl hsl hl => lv_istore hx hb d hl.has (by simp only [List.length_cons]; omega) rfl (fun ls' hl' => k H locs cells slots ls' hZ hS hcl hsl (wt_lv.st1 hn (by simp only [List.length_cons]; omega) hl'))
theorem wt_astore_6 {pc : Nat} {a0 a1 a2 a3 a4 a5 : Option Value} {b : Option Value} {r : List (Option Value)} {x : Nat} (hc : wt_Cx l G X y cc nL fr) (d : decode cc pc = .ok (.astore 6, 2)) (hn : wt_nl (a0 :: a1 :: a2 :: a3 :: a4 :: a5 :: b :: r) 6 = true) (k : wt_V G X (pc + 2) (a0 :: a1 :: a2 :: a3 :: a4 :: a5 :: some (.ref x) :: r) st Z kc ks) : wt_V G X pc (a0 :: a1 :: a2 :: a3 :: a4 :: a5 :: b :: r) (.ref x :: st) Z kc ks := by
  obtain ⟨p, l', e, Rm, s, m, args, below, meth, c, Q⟩ := X
  obtain ⟨-, hx, hb, hown, hts, -⟩ := hc
  exact fun H locs cells slots ls hZ hS hcl hsl hl => lv_astore hx hb d hl.has (by simp only [List.length_cons]; omega) rfl (fun ls' hl' => k H locs cells slots ls' hZ hS hcl hsl (wt_lv.st1 hn (by simp only [List.length_cons]; omega) hl'))
theorem wt_astoreN_6 {pc : Nat} {a0 a1 a2 a3 a4 a5 : Option Value} {b : Option Value} {r : List (Option Value)} (hc : wt_Cx l G X y cc nL fr) (d : decode cc pc = .ok (.astore 6, 2)) (hn : wt_nl (a0 :: a1 :: a2 :: a3 :: a4 :: a5 :: b :: r) 6 = true) (k : wt_V G X (pc + 2) (a0 :: a1 :: a2 :: a3 :: a4 :: a5 :: some (.null) :: r) st Z kc ks) : wt_V G X pc (a0 :: a1 :: a2 :: a3 :: a4 :: a5 :: b :: r) (.null :: st) Z kc ks := by
  obtain ⟨p, l', e, Rm, s, m, args, below, meth, c, Q⟩ := X
  obtain ⟨-, hx, hb, hown, hts, -⟩ := hc
  exact fun H locs cells slots ls hZ hS hcl hsl hl => lv_astoreN hx hb d hl.has (by simp only [List.length_cons]; omega) rfl (fun ls' hl' => k H locs cells slots ls' hZ hS hcl hsl (wt_lv.st1 hn (by simp only [List.length_cons]; omega) hl'))
theorem wt_lstore_6 {pc : Nat} {a0 a1 a2 a3 a4 a5 : Option Value} {b b2 : Option Value} {r : List (Option Value)} {x : Int64} (hc : wt_Cx l G X y cc nL fr) (d : decode cc pc = .ok (.lstore 6, 2)) (hn : wt_nl (a0 :: a1 :: a2 :: a3 :: a4 :: a5 :: b :: b2 :: r) 6 = true) (k : wt_V G X (pc + 2) (a0 :: a1 :: a2 :: a3 :: a4 :: a5 :: some (.long x) :: none :: r) st Z kc ks) : wt_V G X pc (a0 :: a1 :: a2 :: a3 :: a4 :: a5 :: b :: b2 :: r) (.long x :: st) Z kc ks := by
  obtain ⟨p, l', e, Rm, s, m, args, below, meth, c, Q⟩ := X
  obtain ⟨-, hx, hb, hown, hts, -⟩ := hc
  exact fun H locs cells slots ls hZ hS hcl hsl hl => lv_lstore hx hb d hl.has (by simp only [List.length_cons]; omega) rfl (fun ls' hl' => k H locs cells slots ls' hZ hS hcl hsl (wt_lv.st2 hn (by simp only [List.length_cons]; omega) hl'))
theorem wt_iinc_6 {pc : Nat} {a0 a1 a2 a3 a4 a5 : Option Value} {r : List (Option Value)} {n : Int} {x v : Int32} (hc : wt_Cx l G X y cc nL fr) (d : decode cc pc = .ok (.iinc 6 n, 3)) (hv : x + Int32.ofInt n = v) (hn : wt_nl (a0 :: a1 :: a2 :: a3 :: a4 :: a5 :: some (.int x) :: r) 6 = true) (k : wt_V G X (pc + 3) (a0 :: a1 :: a2 :: a3 :: a4 :: a5 :: some (.int v) :: r) st Z kc ks) : wt_V G X pc (a0 :: a1 :: a2 :: a3 :: a4 :: a5 :: some (.int x) :: r) st Z kc ks := by
  obtain ⟨p, l', e, Rm, s, m, args, below, meth, c, Q⟩ := X
  obtain ⟨-, hx, hb, hown, hts, -⟩ := hc
  intro H locs cells slots ls hZ hS hcl hsl hl
  have h1 : lv_has ls (a0 :: a1 :: a2 :: a3 :: a4 :: a5 :: some (.int x) :: r).length (((6, Value.int x)) :: wt_as 0 (a0 :: a1 :: a2 :: a3 :: a4 :: a5 :: some (.int x) :: r)) := by
    refine ⟨hl.1, hl.2.1, fun q hq => ?_⟩
    rcases List.mem_cons.mp hq with rfl | hq
    · exact hl.2.2 6 _ (by rfl)
    · exact hl.has.2.2 q hq
  refine lv_iinc (k := 0) hx hb d h1 rfl hv (by simp only [List.length_cons]; omega) rfl (fun ls' hl' => k H locs cells slots ls' hZ hS hcl hsl (wt_lv.st1 hn (by simp only [List.length_cons]; omega) ?_))
  refine wt_has_sub hl' (fun q hq => ?_)
  rcases List.mem_cons.mp hq with rfl | hq
  · exact List.mem_cons_self
  · exact List.mem_cons_of_mem _ (List.mem_filter.mpr ⟨List.mem_cons_of_mem _ (List.mem_filter.mp hq).1, (List.mem_filter.mp hq).2⟩)
theorem wt_iload_7 {pc : Nat} {a0 a1 a2 a3 a4 a5 a6 : Option Value} {r : List (Option Value)} {x : Int32} (hc : wt_Cx l G X y cc nL fr) (d : decode cc pc = .ok (.iload 7, 2)) (k : wt_V G X (pc + 2) (a0 :: a1 :: a2 :: a3 :: a4 :: a5 :: a6 :: some (.int x) :: r) (.int x :: st) Z kc ks) : wt_V G X pc (a0 :: a1 :: a2 :: a3 :: a4 :: a5 :: a6 :: some (.int x) :: r) st Z kc ks := by
  obtain ⟨p, l', e, Rm, s, m, args, below, meth, c, Q⟩ := X
  obtain ⟨-, hx, hb, hown, hts, -⟩ := hc
  exact fun H locs cells slots ls hZ hS hcl hsl hl => lv_iload hx hb d (hl.2.2 7 (.int x) (by rfl)) (k H locs cells slots ls hZ hS hcl hsl hl)
theorem wt_lload_7 {pc : Nat} {a0 a1 a2 a3 a4 a5 a6 : Option Value} {r : List (Option Value)} {x : Int64} (hc : wt_Cx l G X y cc nL fr) (d : decode cc pc = .ok (.lload 7, 2)) (k : wt_V G X (pc + 2) (a0 :: a1 :: a2 :: a3 :: a4 :: a5 :: a6 :: some (.long x) :: r) (.long x :: st) Z kc ks) : wt_V G X pc (a0 :: a1 :: a2 :: a3 :: a4 :: a5 :: a6 :: some (.long x) :: r) st Z kc ks := by
  obtain ⟨p, l', e, Rm, s, m, args, below, meth, c, Q⟩ := X
  obtain ⟨-, hx, hb, hown, hts, -⟩ := hc
  exact fun H locs cells slots ls hZ hS hcl hsl hl => lv_lload hx hb d (hl.2.2 7 (.long x) (by rfl)) (k H locs cells slots ls hZ hS hcl hsl hl)
theorem wt_aload_7 {pc : Nat} {a0 a1 a2 a3 a4 a5 a6 : Option Value} {r : List (Option Value)} {x : Nat} (hc : wt_Cx l G X y cc nL fr) (d : decode cc pc = .ok (.aload 7, 2)) (k : wt_V G X (pc + 2) (a0 :: a1 :: a2 :: a3 :: a4 :: a5 :: a6 :: some (.ref x) :: r) (.ref x :: st) Z kc ks) : wt_V G X pc (a0 :: a1 :: a2 :: a3 :: a4 :: a5 :: a6 :: some (.ref x) :: r) st Z kc ks := by
  obtain ⟨p, l', e, Rm, s, m, args, below, meth, c, Q⟩ := X
  obtain ⟨-, hx, hb, hown, hts, -⟩ := hc
  exact fun H locs cells slots ls hZ hS hcl hsl hl => lv_aload hx hb d (hl.2.2 7 (.ref x) (by rfl)) (k H locs cells slots ls hZ hS hcl hsl hl)
theorem wt_aloadN_7 {pc : Nat} {a0 a1 a2 a3 a4 a5 a6 : Option Value} {r : List (Option Value)} (hc : wt_Cx l G X y cc nL fr) (d : decode cc pc = .ok (.aload 7, 2)) (k : wt_V G X (pc + 2) (a0 :: a1 :: a2 :: a3 :: a4 :: a5 :: a6 :: some .null :: r) (.null :: st) Z kc ks) : wt_V G X pc (a0 :: a1 :: a2 :: a3 :: a4 :: a5 :: a6 :: some .null :: r) st Z kc ks := by
  obtain ⟨p, l', e, Rm, s, m, args, below, meth, c, Q⟩ := X
  obtain ⟨-, hx, hb, hown, hts, -⟩ := hc
  exact fun H locs cells slots ls hZ hS hcl hsl hl => lv_aloadN hx hb d (hl.2.2 7 .null (by rfl)) (k H locs cells slots ls hZ hS hcl hsl hl)
theorem wt_istore_7 {pc : Nat} {a0 a1 a2 a3 a4 a5 a6 : Option Value} {b : Option Value} {r : List (Option Value)} {x : Int32} (hc : wt_Cx l G X y cc nL fr) (d : decode cc pc = .ok (.istore 7, 2)) (hn : wt_nl (a0 :: a1 :: a2 :: a3 :: a4 :: a5 :: a6 :: b :: r) 7 = true) (k : wt_V G X (pc + 2) (a0 :: a1 :: a2 :: a3 :: a4 :: a5 :: a6 :: some (.int x) :: r) st Z kc ks) : wt_V G X pc (a0 :: a1 :: a2 :: a3 :: a4 :: a5 :: a6 :: b :: r) (.int x :: st) Z kc ks := by
  obtain ⟨p, l', e, Rm, s, m, args, below, meth, c, Q⟩ := X
  obtain ⟨-, hx, hb, hown, hts, -⟩ := hc
  exact fun H locs cells slots ls hZ hS hcl hsl hl => lv_istore hx hb d hl.has (by simp only [List.length_cons]; omega) rfl (fun ls' hl' => k H locs cells slots ls' hZ hS hcl hsl (wt_lv.st1 hn (by simp only [List.length_cons]; omega) hl'))
theorem wt_astore_7 {pc : Nat} {a0 a1 a2 a3 a4 a5 a6 : Option Value} {b : Option Value} {r : List (Option Value)} {x : Nat} (hc : wt_Cx l G X y cc nL fr) (d : decode cc pc = .ok (.astore 7, 2)) (hn : wt_nl (a0 :: a1 :: a2 :: a3 :: a4 :: a5 :: a6 :: b :: r) 7 = true) (k : wt_V G X (pc + 2) (a0 :: a1 :: a2 :: a3 :: a4 :: a5 :: a6 :: some (.ref x) :: r) st Z kc ks) : wt_V G X pc (a0 :: a1 :: a2 :: a3 :: a4 :: a5 :: a6 :: b :: r) (.ref x :: st) Z kc ks := by
  obtain ⟨p, l', e, Rm, s, m, args, below, meth, c, Q⟩ := X
  obtain ⟨-, hx, hb, hown, hts, -⟩ := hc
  exact fun H locs cells slots ls hZ hS hcl hsl hl => lv_astore hx hb d hl.has (by simp only [List.length_cons]; omega) rfl (fun ls' hl' => k H locs cells slots ls' hZ hS hcl hsl (wt_lv.st1 hn (by simp only [List.length_cons]; omega) hl'))
theorem wt_astoreN_7 {pc : Nat} {a0 a1 a2 a3 a4 a5 a6 : Option Value} {b : Option Value} {r : List (Option Value)} (hc : wt_Cx l G X y cc nL fr) (d : decode cc pc = .ok (.astore 7, 2)) (hn : wt_nl (a0 :: a1 :: a2 :: a3 :: a4 :: a5 :: a6 :: b :: r) 7 = true) (k : wt_V G X (pc + 2) (a0 :: a1 :: a2 :: a3 :: a4 :: a5 :: a6 :: some (.null) :: r) st Z kc ks) : wt_V G X pc (a0 :: a1 :: a2 :: a3 :: a4 :: a5 :: a6 :: b :: r) (.null :: st) Z kc ks := by
  obtain ⟨p, l', e, Rm, s, m, args, below, meth, c, Q⟩ := X
  obtain ⟨-, hx, hb, hown, hts, -⟩ := hc
  exact fun H locs cells slots ls hZ hS hcl hsl hl => lv_astoreN hx hb d hl.has (by simp only [List.length_cons]; omega) rfl (fun ls' hl' => k H locs cells slots ls' hZ hS hcl hsl (wt_lv.st1 hn (by simp only [List.length_cons]; omega) hl'))
theorem wt_lstore_7 {pc : Nat} {a0 a1 a2 a3 a4 a5 a6 : Option Value} {b b2 : Option Value} {r : List (Option Value)} {x : Int64} (hc : wt_Cx l G X y cc nL fr) (d : decode cc pc = .ok (.lstore 7, 2)) (hn : wt_nl (a0 :: a1 :: a2 :: a3 :: a4 :: a5 :: a6 :: b :: b2 :: r) 7 = true) (k : wt_V G X (pc + 2) (a0 :: a1 :: a2 :: a3 :: a4 :: a5 :: a6 :: some (.long x) :: none :: r) st Z kc ks) : wt_V G X pc (a0 :: a1 :: a2 :: a3 :: a4 :: a5 :: a6 :: b :: b2 :: r) (.long x :: st) Z kc ks := by
  obtain ⟨p, l', e, Rm, s, m, args, below, meth, c, Q⟩ := X
  obtain ⟨-, hx, hb, hown, hts, -⟩ := hc
  exact fun H locs cells slots ls hZ hS hcl hsl hl => lv_lstore hx hb d hl.has (by simp only [List.length_cons]; omega) rfl (fun ls' hl' => k H locs cells slots ls' hZ hS hcl hsl (wt_lv.st2 hn (by simp only [List.length_cons]; omega) hl'))
theorem wt_iinc_7 {pc : Nat} {a0 a1 a2 a3 a4 a5 a6 : Option Value} {r : List (Option Value)} {n : Int} {x v : Int32} (hc : wt_Cx l G X y cc nL fr) (d : decode cc pc = .ok (.iinc 7 n, 3)) (hv : x + Int32.ofInt n = v) (hn : wt_nl (a0 :: a1 :: a2 :: a3 :: a4 :: a5 :: a6 :: some (.int x) :: r) 7 = true) (k : wt_V G X (pc + 3) (a0 :: a1 :: a2 :: a3 :: a4 :: a5 :: a6 :: some (.int v) :: r) st Z kc ks) : wt_V G X pc (a0 :: a1 :: a2 :: a3 :: a4 :: a5 :: a6 :: some (.int x) :: r) st Z kc ks := by
  obtain ⟨p, l', e, Rm, s, m, args, below, meth, c, Q⟩ := X
  obtain ⟨-, hx, hb, hown, hts, -⟩ := hc
  intro H locs cells slots ls hZ hS hcl hsl hl
  have h1 : lv_has ls (a0 :: a1 :: a2 :: a3 :: a4 :: a5 :: a6 :: some (.int x) :: r).length (((7, Value.int x)) :: wt_as 0 (a0 :: a1 :: a2 :: a3 :: a4 :: a5 :: a6 :: some (.int x) :: r)) := by
    refine ⟨hl.1, hl.2.1, fun q hq => ?_⟩
    rcases List.mem_cons.mp hq with rfl | hq
    · exact hl.2.2 7 _ (by rfl)
    · exact hl.has.2.2 q hq
  refine lv_iinc (k := 0) hx hb d h1 rfl hv (by simp only [List.length_cons]; omega) rfl (fun ls' hl' => k H locs cells slots ls' hZ hS hcl hsl (wt_lv.st1 hn (by simp only [List.length_cons]; omega) ?_))
  refine wt_has_sub hl' (fun q hq => ?_)
  rcases List.mem_cons.mp hq with rfl | hq
  · exact List.mem_cons_self
  · exact List.mem_cons_of_mem _ (List.mem_filter.mpr ⟨List.mem_cons_of_mem _ (List.mem_filter.mp hq).1, (List.mem_filter.mp hq).2⟩)
theorem wt_iload_8 {pc : Nat} {a0 a1 a2 a3 a4 a5 a6 a7 : Option Value} {r : List (Option Value)} {x : Int32} (hc : wt_Cx l G X y cc nL fr) (d : decode cc pc = .ok (.iload 8, 2)) (k : wt_V G X (pc + 2) (a0 :: a1 :: a2 :: a3 :: a4 :: a5 :: a6 :: a7 :: some (.int x) :: r) (.int x :: st) Z kc ks) : wt_V G X pc (a0 :: a1 :: a2 :: a3 :: a4 :: a5 :: a6 :: a7 :: some (.int x) :: r) st Z kc ks := by
  obtain ⟨p, l', e, Rm, s, m, args, below, meth, c, Q⟩ := X
  obtain ⟨-, hx, hb, hown, hts, -⟩ := hc
  exact fun H locs cells slots ls hZ hS hcl hsl hl => lv_iload hx hb d (hl.2.2 8 (.int x) (by rfl)) (k H locs cells slots ls hZ hS hcl hsl hl)
theorem wt_lload_8 {pc : Nat} {a0 a1 a2 a3 a4 a5 a6 a7 : Option Value} {r : List (Option Value)} {x : Int64} (hc : wt_Cx l G X y cc nL fr) (d : decode cc pc = .ok (.lload 8, 2)) (k : wt_V G X (pc + 2) (a0 :: a1 :: a2 :: a3 :: a4 :: a5 :: a6 :: a7 :: some (.long x) :: r) (.long x :: st) Z kc ks) : wt_V G X pc (a0 :: a1 :: a2 :: a3 :: a4 :: a5 :: a6 :: a7 :: some (.long x) :: r) st Z kc ks := by
  obtain ⟨p, l', e, Rm, s, m, args, below, meth, c, Q⟩ := X
  obtain ⟨-, hx, hb, hown, hts, -⟩ := hc
  exact fun H locs cells slots ls hZ hS hcl hsl hl => lv_lload hx hb d (hl.2.2 8 (.long x) (by rfl)) (k H locs cells slots ls hZ hS hcl hsl hl)
theorem wt_aload_8 {pc : Nat} {a0 a1 a2 a3 a4 a5 a6 a7 : Option Value} {r : List (Option Value)} {x : Nat} (hc : wt_Cx l G X y cc nL fr) (d : decode cc pc = .ok (.aload 8, 2)) (k : wt_V G X (pc + 2) (a0 :: a1 :: a2 :: a3 :: a4 :: a5 :: a6 :: a7 :: some (.ref x) :: r) (.ref x :: st) Z kc ks) : wt_V G X pc (a0 :: a1 :: a2 :: a3 :: a4 :: a5 :: a6 :: a7 :: some (.ref x) :: r) st Z kc ks := by
  obtain ⟨p, l', e, Rm, s, m, args, below, meth, c, Q⟩ := X
  obtain ⟨-, hx, hb, hown, hts, -⟩ := hc
  exact fun H locs cells slots ls hZ hS hcl hsl hl => lv_aload hx hb d (hl.2.2 8 (.ref x) (by rfl)) (k H locs cells slots ls hZ hS hcl hsl hl)
theorem wt_aloadN_8 {pc : Nat} {a0 a1 a2 a3 a4 a5 a6 a7 : Option Value} {r : List (Option Value)} (hc : wt_Cx l G X y cc nL fr) (d : decode cc pc = .ok (.aload 8, 2)) (k : wt_V G X (pc + 2) (a0 :: a1 :: a2 :: a3 :: a4 :: a5 :: a6 :: a7 :: some .null :: r) (.null :: st) Z kc ks) : wt_V G X pc (a0 :: a1 :: a2 :: a3 :: a4 :: a5 :: a6 :: a7 :: some .null :: r) st Z kc ks := by
  obtain ⟨p, l', e, Rm, s, m, args, below, meth, c, Q⟩ := X
  obtain ⟨-, hx, hb, hown, hts, -⟩ := hc
  exact fun H locs cells slots ls hZ hS hcl hsl hl => lv_aloadN hx hb d (hl.2.2 8 .null (by rfl)) (k H locs cells slots ls hZ hS hcl hsl hl)
theorem wt_istore_8 {pc : Nat} {a0 a1 a2 a3 a4 a5 a6 a7 : Option Value} {b : Option Value} {r : List (Option Value)} {x : Int32} (hc : wt_Cx l G X y cc nL fr) (d : decode cc pc = .ok (.istore 8, 2)) (hn : wt_nl (a0 :: a1 :: a2 :: a3 :: a4 :: a5 :: a6 :: a7 :: b :: r) 8 = true) (k : wt_V G X (pc + 2) (a0 :: a1 :: a2 :: a3 :: a4 :: a5 :: a6 :: a7 :: some (.int x) :: r) st Z kc ks) : wt_V G X pc (a0 :: a1 :: a2 :: a3 :: a4 :: a5 :: a6 :: a7 :: b :: r) (.int x :: st) Z kc ks := by
  obtain ⟨p, l', e, Rm, s, m, args, below, meth, c, Q⟩ := X
  obtain ⟨-, hx, hb, hown, hts, -⟩ := hc
  exact fun H locs cells slots ls hZ hS hcl hsl hl => lv_istore hx hb d hl.has (by simp only [List.length_cons]; omega) rfl (fun ls' hl' => k H locs cells slots ls' hZ hS hcl hsl (wt_lv.st1 hn (by simp only [List.length_cons]; omega) hl'))
theorem wt_astore_8 {pc : Nat} {a0 a1 a2 a3 a4 a5 a6 a7 : Option Value} {b : Option Value} {r : List (Option Value)} {x : Nat} (hc : wt_Cx l G X y cc nL fr) (d : decode cc pc = .ok (.astore 8, 2)) (hn : wt_nl (a0 :: a1 :: a2 :: a3 :: a4 :: a5 :: a6 :: a7 :: b :: r) 8 = true) (k : wt_V G X (pc + 2) (a0 :: a1 :: a2 :: a3 :: a4 :: a5 :: a6 :: a7 :: some (.ref x) :: r) st Z kc ks) : wt_V G X pc (a0 :: a1 :: a2 :: a3 :: a4 :: a5 :: a6 :: a7 :: b :: r) (.ref x :: st) Z kc ks := by
  obtain ⟨p, l', e, Rm, s, m, args, below, meth, c, Q⟩ := X
  obtain ⟨-, hx, hb, hown, hts, -⟩ := hc
  exact fun H locs cells slots ls hZ hS hcl hsl hl => lv_astore hx hb d hl.has (by simp only [List.length_cons]; omega) rfl (fun ls' hl' => k H locs cells slots ls' hZ hS hcl hsl (wt_lv.st1 hn (by simp only [List.length_cons]; omega) hl'))
theorem wt_astoreN_8 {pc : Nat} {a0 a1 a2 a3 a4 a5 a6 a7 : Option Value} {b : Option Value} {r : List (Option Value)} (hc : wt_Cx l G X y cc nL fr) (d : decode cc pc = .ok (.astore 8, 2)) (hn : wt_nl (a0 :: a1 :: a2 :: a3 :: a4 :: a5 :: a6 :: a7 :: b :: r) 8 = true) (k : wt_V G X (pc + 2) (a0 :: a1 :: a2 :: a3 :: a4 :: a5 :: a6 :: a7 :: some (.null) :: r) st Z kc ks) : wt_V G X pc (a0 :: a1 :: a2 :: a3 :: a4 :: a5 :: a6 :: a7 :: b :: r) (.null :: st) Z kc ks := by
  obtain ⟨p, l', e, Rm, s, m, args, below, meth, c, Q⟩ := X
  obtain ⟨-, hx, hb, hown, hts, -⟩ := hc
  exact fun H locs cells slots ls hZ hS hcl hsl hl => lv_astoreN hx hb d hl.has (by simp only [List.length_cons]; omega) rfl (fun ls' hl' => k H locs cells slots ls' hZ hS hcl hsl (wt_lv.st1 hn (by simp only [List.length_cons]; omega) hl'))
theorem wt_lstore_8 {pc : Nat} {a0 a1 a2 a3 a4 a5 a6 a7 : Option Value} {b b2 : Option Value} {r : List (Option Value)} {x : Int64} (hc : wt_Cx l G X y cc nL fr) (d : decode cc pc = .ok (.lstore 8, 2)) (hn : wt_nl (a0 :: a1 :: a2 :: a3 :: a4 :: a5 :: a6 :: a7 :: b :: b2 :: r) 8 = true) (k : wt_V G X (pc + 2) (a0 :: a1 :: a2 :: a3 :: a4 :: a5 :: a6 :: a7 :: some (.long x) :: none :: r) st Z kc ks) : wt_V G X pc (a0 :: a1 :: a2 :: a3 :: a4 :: a5 :: a6 :: a7 :: b :: b2 :: r) (.long x :: st) Z kc ks := by
  obtain ⟨p, l', e, Rm, s, m, args, below, meth, c, Q⟩ := X
  obtain ⟨-, hx, hb, hown, hts, -⟩ := hc
  exact fun H locs cells slots ls hZ hS hcl hsl hl => lv_lstore hx hb d hl.has (by simp only [List.length_cons]; omega) rfl (fun ls' hl' => k H locs cells slots ls' hZ hS hcl hsl (wt_lv.st2 hn (by simp only [List.length_cons]; omega) hl'))
theorem wt_iinc_8 {pc : Nat} {a0 a1 a2 a3 a4 a5 a6 a7 : Option Value} {r : List (Option Value)} {n : Int} {x v : Int32} (hc : wt_Cx l G X y cc nL fr) (d : decode cc pc = .ok (.iinc 8 n, 3)) (hv : x + Int32.ofInt n = v) (hn : wt_nl (a0 :: a1 :: a2 :: a3 :: a4 :: a5 :: a6 :: a7 :: some (.int x) :: r) 8 = true) (k : wt_V G X (pc + 3) (a0 :: a1 :: a2 :: a3 :: a4 :: a5 :: a6 :: a7 :: some (.int v) :: r) st Z kc ks) : wt_V G X pc (a0 :: a1 :: a2 :: a3 :: a4 :: a5 :: a6 :: a7 :: some (.int x) :: r) st Z kc ks := by
  obtain ⟨p, l', e, Rm, s, m, args, below, meth, c, Q⟩ := X
  obtain ⟨-, hx, hb, hown, hts, -⟩ := hc
  intro H locs cells slots ls hZ hS hcl hsl hl
  have h1 : lv_has ls (a0 :: a1 :: a2 :: a3 :: a4 :: a5 :: a6 :: a7 :: some (.int x) :: r).length (((8, Value.int x)) :: wt_as 0 (a0 :: a1 :: a2 :: a3 :: a4 :: a5 :: a6 :: a7 :: some (.int x) :: r)) := by
    refine ⟨hl.1, hl.2.1, fun q hq => ?_⟩
    rcases List.mem_cons.mp hq with rfl | hq
    · exact hl.2.2 8 _ (by rfl)
    · exact hl.has.2.2 q hq
  refine lv_iinc (k := 0) hx hb d h1 rfl hv (by simp only [List.length_cons]; omega) rfl (fun ls' hl' => k H locs cells slots ls' hZ hS hcl hsl (wt_lv.st1 hn (by simp only [List.length_cons]; omega) ?_))
  refine wt_has_sub hl' (fun q hq => ?_)
  rcases List.mem_cons.mp hq with rfl | hq
  · exact List.mem_cons_self
  · exact List.mem_cons_of_mem _ (List.mem_filter.mpr ⟨List.mem_cons_of_mem _ (List.mem_filter.mp hq).1, (List.mem_filter.mp hq).2⟩)
theorem wt_iload_9 {pc : Nat} {a0 a1 a2 a3 a4 a5 a6 a7 a8 : Option Value} {r : List (Option Value)} {x : Int32} (hc : wt_Cx l G X y cc nL fr) (d : decode cc pc = .ok (.iload 9, 2)) (k : wt_V G X (pc + 2) (a0 :: a1 :: a2 :: a3 :: a4 :: a5 :: a6 :: a7 :: a8 :: some (.int x) :: r) (.int x :: st) Z kc ks) : wt_V G X pc (a0 :: a1 :: a2 :: a3 :: a4 :: a5 :: a6 :: a7 :: a8 :: some (.int x) :: r) st Z kc ks := by
  obtain ⟨p, l', e, Rm, s, m, args, below, meth, c, Q⟩ := X
  obtain ⟨-, hx, hb, hown, hts, -⟩ := hc
  exact fun H locs cells slots ls hZ hS hcl hsl hl => lv_iload hx hb d (hl.2.2 9 (.int x) (by rfl)) (k H locs cells slots ls hZ hS hcl hsl hl)
theorem wt_lload_9 {pc : Nat} {a0 a1 a2 a3 a4 a5 a6 a7 a8 : Option Value} {r : List (Option Value)} {x : Int64} (hc : wt_Cx l G X y cc nL fr) (d : decode cc pc = .ok (.lload 9, 2)) (k : wt_V G X (pc + 2) (a0 :: a1 :: a2 :: a3 :: a4 :: a5 :: a6 :: a7 :: a8 :: some (.long x) :: r) (.long x :: st) Z kc ks) : wt_V G X pc (a0 :: a1 :: a2 :: a3 :: a4 :: a5 :: a6 :: a7 :: a8 :: some (.long x) :: r) st Z kc ks := by
  obtain ⟨p, l', e, Rm, s, m, args, below, meth, c, Q⟩ := X
  obtain ⟨-, hx, hb, hown, hts, -⟩ := hc
  exact fun H locs cells slots ls hZ hS hcl hsl hl => lv_lload hx hb d (hl.2.2 9 (.long x) (by rfl)) (k H locs cells slots ls hZ hS hcl hsl hl)
theorem wt_aload_9 {pc : Nat} {a0 a1 a2 a3 a4 a5 a6 a7 a8 : Option Value} {r : List (Option Value)} {x : Nat} (hc : wt_Cx l G X y cc nL fr) (d : decode cc pc = .ok (.aload 9, 2)) (k : wt_V G X (pc + 2) (a0 :: a1 :: a2 :: a3 :: a4 :: a5 :: a6 :: a7 :: a8 :: some (.ref x) :: r) (.ref x :: st) Z kc ks) : wt_V G X pc (a0 :: a1 :: a2 :: a3 :: a4 :: a5 :: a6 :: a7 :: a8 :: some (.ref x) :: r) st Z kc ks := by
  obtain ⟨p, l', e, Rm, s, m, args, below, meth, c, Q⟩ := X
  obtain ⟨-, hx, hb, hown, hts, -⟩ := hc
  exact fun H locs cells slots ls hZ hS hcl hsl hl => lv_aload hx hb d (hl.2.2 9 (.ref x) (by rfl)) (k H locs cells slots ls hZ hS hcl hsl hl)
theorem wt_aloadN_9 {pc : Nat} {a0 a1 a2 a3 a4 a5 a6 a7 a8 : Option Value} {r : List (Option Value)} (hc : wt_Cx l G X y cc nL fr) (d : decode cc pc = .ok (.aload 9, 2)) (k : wt_V G X (pc + 2) (a0 :: a1 :: a2 :: a3 :: a4 :: a5 :: a6 :: a7 :: a8 :: some .null :: r) (.null :: st) Z kc ks) : wt_V G X pc (a0 :: a1 :: a2 :: a3 :: a4 :: a5 :: a6 :: a7 :: a8 :: some .null :: r) st Z kc ks := by
  obtain ⟨p, l', e, Rm, s, m, args, below, meth, c, Q⟩ := X
  obtain ⟨-, hx, hb, hown, hts, -⟩ := hc
  exact fun H locs cells slots ls hZ hS hcl hsl hl => lv_aloadN hx hb d (hl.2.2 9 .null (by rfl)) (k H locs cells slots ls hZ hS hcl hsl hl)
theorem wt_istore_9 {pc : Nat} {a0 a1 a2 a3 a4 a5 a6 a7 a8 : Option Value} {b : Option Value} {r : List (Option Value)} {x : Int32} (hc : wt_Cx l G X y cc nL fr) (d : decode cc pc = .ok (.istore 9, 2)) (hn : wt_nl (a0 :: a1 :: a2 :: a3 :: a4 :: a5 :: a6 :: a7 :: a8 :: b :: r) 9 = true) (k : wt_V G X (pc + 2) (a0 :: a1 :: a2 :: a3 :: a4 :: a5 :: a6 :: a7 :: a8 :: some (.int x) :: r) st Z kc ks) : wt_V G X pc (a0 :: a1 :: a2 :: a3 :: a4 :: a5 :: a6 :: a7 :: a8 :: b :: r) (.int x :: st) Z kc ks := by
  obtain ⟨p, l', e, Rm, s, m, args, below, meth, c, Q⟩ := X
  obtain ⟨-, hx, hb, hown, hts, -⟩ := hc
  exact fun H locs cells slots ls hZ hS hcl hsl hl => lv_istore hx hb d hl.has (by simp only [List.length_cons]; omega) rfl (fun ls' hl' => k H locs cells slots ls' hZ hS hcl hsl (wt_lv.st1 hn (by simp only [List.length_cons]; omega) hl'))
theorem wt_astore_9 {pc : Nat} {a0 a1 a2 a3 a4 a5 a6 a7 a8 : Option Value} {b : Option Value} {r : List (Option Value)} {x : Nat} (hc : wt_Cx l G X y cc nL fr) (d : decode cc pc = .ok (.astore 9, 2)) (hn : wt_nl (a0 :: a1 :: a2 :: a3 :: a4 :: a5 :: a6 :: a7 :: a8 :: b :: r) 9 = true) (k : wt_V G X (pc + 2) (a0 :: a1 :: a2 :: a3 :: a4 :: a5 :: a6 :: a7 :: a8 :: some (.ref x) :: r) st Z kc ks) : wt_V G X pc (a0 :: a1 :: a2 :: a3 :: a4 :: a5 :: a6 :: a7 :: a8 :: b :: r) (.ref x :: st) Z kc ks := by
  obtain ⟨p, l', e, Rm, s, m, args, below, meth, c, Q⟩ := X
  obtain ⟨-, hx, hb, hown, hts, -⟩ := hc
  exact fun H locs cells slots ls hZ hS hcl hsl hl => lv_astore hx hb d hl.has (by simp only [List.length_cons]; omega) rfl (fun ls' hl' => k H locs cells slots ls' hZ hS hcl hsl (wt_lv.st1 hn (by simp only [List.length_cons]; omega) hl'))
theorem wt_astoreN_9 {pc : Nat} {a0 a1 a2 a3 a4 a5 a6 a7 a8 : Option Value} {b : Option Value} {r : List (Option Value)} (hc : wt_Cx l G X y cc nL fr) (d : decode cc pc = .ok (.astore 9, 2)) (hn : wt_nl (a0 :: a1 :: a2 :: a3 :: a4 :: a5 :: a6 :: a7 :: a8 :: b :: r) 9 = true) (k : wt_V G X (pc + 2) (a0 :: a1 :: a2 :: a3 :: a4 :: a5 :: a6 :: a7 :: a8 :: some (.null) :: r) st Z kc ks) : wt_V G X pc (a0 :: a1 :: a2 :: a3 :: a4 :: a5 :: a6 :: a7 :: a8 :: b :: r) (.null :: st) Z kc ks := by
  obtain ⟨p, l', e, Rm, s, m, args, below, meth, c, Q⟩ := X
  obtain ⟨-, hx, hb, hown, hts, -⟩ := hc
  exact fun H locs cells slots ls hZ hS hcl hsl hl => lv_astoreN hx hb d hl.has (by simp only [List.length_cons]; omega) rfl (fun ls' hl' => k H locs cells slots ls' hZ hS hcl hsl (wt_lv.st1 hn (by simp only [List.length_cons]; omega) hl'))
theorem wt_lstore_9 {pc : Nat} {a0 a1 a2 a3 a4 a5 a6 a7 a8 : Option Value} {b b2 : Option Value} {r : List (Option Value)} {x : Int64} (hc : wt_Cx l G X y cc nL fr) (d : decode cc pc = .ok (.lstore 9, 2)) (hn : wt_nl (a0 :: a1 :: a2 :: a3 :: a4 :: a5 :: a6 :: a7 :: a8 :: b :: b2 :: r) 9 = true) (k : wt_V G X (pc + 2) (a0 :: a1 :: a2 :: a3 :: a4 :: a5 :: a6 :: a7 :: a8 :: some (.long x) :: none :: r) st Z kc ks) : wt_V G X pc (a0 :: a1 :: a2 :: a3 :: a4 :: a5 :: a6 :: a7 :: a8 :: b :: b2 :: r) (.long x :: st) Z kc ks := by
  obtain ⟨p, l', e, Rm, s, m, args, below, meth, c, Q⟩ := X
  obtain ⟨-, hx, hb, hown, hts, -⟩ := hc
  exact fun H locs cells slots ls hZ hS hcl hsl hl => lv_lstore hx hb d hl.has (by simp only [List.length_cons]; omega) rfl (fun ls' hl' => k H locs cells slots ls' hZ hS hcl hsl (wt_lv.st2 hn (by simp only [List.length_cons]; omega) hl'))
theorem wt_iinc_9 {pc : Nat} {a0 a1 a2 a3 a4 a5 a6 a7 a8 : Option Value} {r : List (Option Value)} {n : Int} {x v : Int32} (hc : wt_Cx l G X y cc nL fr) (d : decode cc pc = .ok (.iinc 9 n, 3)) (hv : x + Int32.ofInt n = v) (hn : wt_nl (a0 :: a1 :: a2 :: a3 :: a4 :: a5 :: a6 :: a7 :: a8 :: some (.int x) :: r) 9 = true) (k : wt_V G X (pc + 3) (a0 :: a1 :: a2 :: a3 :: a4 :: a5 :: a6 :: a7 :: a8 :: some (.int v) :: r) st Z kc ks) : wt_V G X pc (a0 :: a1 :: a2 :: a3 :: a4 :: a5 :: a6 :: a7 :: a8 :: some (.int x) :: r) st Z kc ks := by
  obtain ⟨p, l', e, Rm, s, m, args, below, meth, c, Q⟩ := X
  obtain ⟨-, hx, hb, hown, hts, -⟩ := hc
  intro H locs cells slots ls hZ hS hcl hsl hl
  have h1 : lv_has ls (a0 :: a1 :: a2 :: a3 :: a4 :: a5 :: a6 :: a7 :: a8 :: some (.int x) :: r).length (((9, Value.int x)) :: wt_as 0 (a0 :: a1 :: a2 :: a3 :: a4 :: a5 :: a6 :: a7 :: a8 :: some (.int x) :: r)) := by
    refine ⟨hl.1, hl.2.1, fun q hq => ?_⟩
    rcases List.mem_cons.mp hq with rfl | hq
    · exact hl.2.2 9 _ (by rfl)
    · exact hl.has.2.2 q hq
  refine lv_iinc (k := 0) hx hb d h1 rfl hv (by simp only [List.length_cons]; omega) rfl (fun ls' hl' => k H locs cells slots ls' hZ hS hcl hsl (wt_lv.st1 hn (by simp only [List.length_cons]; omega) ?_))
  refine wt_has_sub hl' (fun q hq => ?_)
  rcases List.mem_cons.mp hq with rfl | hq
  · exact List.mem_cons_self
  · exact List.mem_cons_of_mem _ (List.mem_filter.mpr ⟨List.mem_cons_of_mem _ (List.mem_filter.mp hq).1, (List.mem_filter.mp hq).2⟩)
theorem wt_iload_10 {pc : Nat} {a0 a1 a2 a3 a4 a5 a6 a7 a8 a9 : Option Value} {r : List (Option Value)} {x : Int32} (hc : wt_Cx l G X y cc nL fr) (d : decode cc pc = .ok (.iload 10, 2)) (k : wt_V G X (pc + 2) (a0 :: a1 :: a2 :: a3 :: a4 :: a5 :: a6 :: a7 :: a8 :: a9 :: some (.int x) :: r) (.int x :: st) Z kc ks) : wt_V G X pc (a0 :: a1 :: a2 :: a3 :: a4 :: a5 :: a6 :: a7 :: a8 :: a9 :: some (.int x) :: r) st Z kc ks := by
  obtain ⟨p, l', e, Rm, s, m, args, below, meth, c, Q⟩ := X
  obtain ⟨-, hx, hb, hown, hts, -⟩ := hc
  exact fun H locs cells slots ls hZ hS hcl hsl hl => lv_iload hx hb d (hl.2.2 10 (.int x) (by rfl)) (k H locs cells slots ls hZ hS hcl hsl hl)
theorem wt_lload_10 {pc : Nat} {a0 a1 a2 a3 a4 a5 a6 a7 a8 a9 : Option Value} {r : List (Option Value)} {x : Int64} (hc : wt_Cx l G X y cc nL fr) (d : decode cc pc = .ok (.lload 10, 2)) (k : wt_V G X (pc + 2) (a0 :: a1 :: a2 :: a3 :: a4 :: a5 :: a6 :: a7 :: a8 :: a9 :: some (.long x) :: r) (.long x :: st) Z kc ks) : wt_V G X pc (a0 :: a1 :: a2 :: a3 :: a4 :: a5 :: a6 :: a7 :: a8 :: a9 :: some (.long x) :: r) st Z kc ks := by
  obtain ⟨p, l', e, Rm, s, m, args, below, meth, c, Q⟩ := X
  obtain ⟨-, hx, hb, hown, hts, -⟩ := hc
  exact fun H locs cells slots ls hZ hS hcl hsl hl => lv_lload hx hb d (hl.2.2 10 (.long x) (by rfl)) (k H locs cells slots ls hZ hS hcl hsl hl)
theorem wt_aload_10 {pc : Nat} {a0 a1 a2 a3 a4 a5 a6 a7 a8 a9 : Option Value} {r : List (Option Value)} {x : Nat} (hc : wt_Cx l G X y cc nL fr) (d : decode cc pc = .ok (.aload 10, 2)) (k : wt_V G X (pc + 2) (a0 :: a1 :: a2 :: a3 :: a4 :: a5 :: a6 :: a7 :: a8 :: a9 :: some (.ref x) :: r) (.ref x :: st) Z kc ks) : wt_V G X pc (a0 :: a1 :: a2 :: a3 :: a4 :: a5 :: a6 :: a7 :: a8 :: a9 :: some (.ref x) :: r) st Z kc ks := by
  obtain ⟨p, l', e, Rm, s, m, args, below, meth, c, Q⟩ := X
  obtain ⟨-, hx, hb, hown, hts, -⟩ := hc
  exact fun H locs cells slots ls hZ hS hcl hsl hl => lv_aload hx hb d (hl.2.2 10 (.ref x) (by rfl)) (k H locs cells slots ls hZ hS hcl hsl hl)
theorem wt_aloadN_10 {pc : Nat} {a0 a1 a2 a3 a4 a5 a6 a7 a8 a9 : Option Value} {r : List (Option Value)} (hc : wt_Cx l G X y cc nL fr) (d : decode cc pc = .ok (.aload 10, 2)) (k : wt_V G X (pc + 2) (a0 :: a1 :: a2 :: a3 :: a4 :: a5 :: a6 :: a7 :: a8 :: a9 :: some .null :: r) (.null :: st) Z kc ks) : wt_V G X pc (a0 :: a1 :: a2 :: a3 :: a4 :: a5 :: a6 :: a7 :: a8 :: a9 :: some .null :: r) st Z kc ks := by
  obtain ⟨p, l', e, Rm, s, m, args, below, meth, c, Q⟩ := X
  obtain ⟨-, hx, hb, hown, hts, -⟩ := hc
  exact fun H locs cells slots ls hZ hS hcl hsl hl => lv_aloadN hx hb d (hl.2.2 10 .null (by rfl)) (k H locs cells slots ls hZ hS hcl hsl hl)
theorem wt_istore_10 {pc : Nat} {a0 a1 a2 a3 a4 a5 a6 a7 a8 a9 : Option Value} {b : Option Value} {r : List (Option Value)} {x : Int32} (hc : wt_Cx l G X y cc nL fr) (d : decode cc pc = .ok (.istore 10, 2)) (hn : wt_nl (a0 :: a1 :: a2 :: a3 :: a4 :: a5 :: a6 :: a7 :: a8 :: a9 :: b :: r) 10 = true) (k : wt_V G X (pc + 2) (a0 :: a1 :: a2 :: a3 :: a4 :: a5 :: a6 :: a7 :: a8 :: a9 :: some (.int x) :: r) st Z kc ks) : wt_V G X pc (a0 :: a1 :: a2 :: a3 :: a4 :: a5 :: a6 :: a7 :: a8 :: a9 :: b :: r) (.int x :: st) Z kc ks := by
  obtain ⟨p, l', e, Rm, s, m, args, below, meth, c, Q⟩ := X
  obtain ⟨-, hx, hb, hown, hts, -⟩ := hc
  exact fun H locs cells slots ls hZ hS hcl hsl hl => lv_istore hx hb d hl.has (by simp only [List.length_cons]; omega) rfl (fun ls' hl' => k H locs cells slots ls' hZ hS hcl hsl (wt_lv.st1 hn (by simp only [List.length_cons]; omega) hl'))
theorem wt_astore_10 {pc : Nat} {a0 a1 a2 a3 a4 a5 a6 a7 a8 a9 : Option Value} {b : Option Value} {r : List (Option Value)} {x : Nat} (hc : wt_Cx l G X y cc nL fr) (d : decode cc pc = .ok (.astore 10, 2)) (hn : wt_nl (a0 :: a1 :: a2 :: a3 :: a4 :: a5 :: a6 :: a7 :: a8 :: a9 :: b :: r) 10 = true) (k : wt_V G X (pc + 2) (a0 :: a1 :: a2 :: a3 :: a4 :: a5 :: a6 :: a7 :: a8 :: a9 :: some (.ref x) :: r) st Z kc ks) : wt_V G X pc (a0 :: a1 :: a2 :: a3 :: a4 :: a5 :: a6 :: a7 :: a8 :: a9 :: b :: r) (.ref x :: st) Z kc ks := by
  obtain ⟨p, l', e, Rm, s, m, args, below, meth, c, Q⟩ := X
  obtain ⟨-, hx, hb, hown, hts, -⟩ := hc
  exact fun H locs cells slots ls hZ hS hcl hsl hl => lv_astore hx hb d hl.has (by simp only [List.length_cons]; omega) rfl (fun ls' hl' => k H locs cells slots ls' hZ hS hcl hsl (wt_lv.st1 hn (by simp only [List.length_cons]; omega) hl'))
theorem wt_astoreN_10 {pc : Nat} {a0 a1 a2 a3 a4 a5 a6 a7 a8 a9 : Option Value} {b : Option Value} {r : List (Option Value)} (hc : wt_Cx l G X y cc nL fr) (d : decode cc pc = .ok (.astore 10, 2)) (hn : wt_nl (a0 :: a1 :: a2 :: a3 :: a4 :: a5 :: a6 :: a7 :: a8 :: a9 :: b :: r) 10 = true) (k : wt_V G X (pc + 2) (a0 :: a1 :: a2 :: a3 :: a4 :: a5 :: a6 :: a7 :: a8 :: a9 :: some (.null) :: r) st Z kc ks) : wt_V G X pc (a0 :: a1 :: a2 :: a3 :: a4 :: a5 :: a6 :: a7 :: a8 :: a9 :: b :: r) (.null :: st) Z kc ks := by
  obtain ⟨p, l', e, Rm, s, m, args, below, meth, c, Q⟩ := X
  obtain ⟨-, hx, hb, hown, hts, -⟩ := hc
  exact fun H locs cells slots ls hZ hS hcl hsl hl => lv_astoreN hx hb d hl.has (by simp only [List.length_cons]; omega) rfl (fun ls' hl' => k H locs cells slots ls' hZ hS hcl hsl (wt_lv.st1 hn (by simp only [List.length_cons]; omega) hl'))
theorem wt_lstore_10 {pc : Nat} {a0 a1 a2 a3 a4 a5 a6 a7 a8 a9 : Option Value} {b b2 : Option Value} {r : List (Option Value)} {x : Int64} (hc : wt_Cx l G X y cc nL fr) (d : decode cc pc = .ok (.lstore 10, 2)) (hn : wt_nl (a0 :: a1 :: a2 :: a3 :: a4 :: a5 :: a6 :: a7 :: a8 :: a9 :: b :: b2 :: r) 10 = true) (k : wt_V G X (pc + 2) (a0 :: a1 :: a2 :: a3 :: a4 :: a5 :: a6 :: a7 :: a8 :: a9 :: some (.long x) :: none :: r) st Z kc ks) : wt_V G X pc (a0 :: a1 :: a2 :: a3 :: a4 :: a5 :: a6 :: a7 :: a8 :: a9 :: b :: b2 :: r) (.long x :: st) Z kc ks := by
  obtain ⟨p, l', e, Rm, s, m, args, below, meth, c, Q⟩ := X
  obtain ⟨-, hx, hb, hown, hts, -⟩ := hc
  exact fun H locs cells slots ls hZ hS hcl hsl hl => lv_lstore hx hb d hl.has (by simp only [List.length_cons]; omega) rfl (fun ls' hl' => k H locs cells slots ls' hZ hS hcl hsl (wt_lv.st2 hn (by simp only [List.length_cons]; omega) hl'))
theorem wt_iinc_10 {pc : Nat} {a0 a1 a2 a3 a4 a5 a6 a7 a8 a9 : Option Value} {r : List (Option Value)} {n : Int} {x v : Int32} (hc : wt_Cx l G X y cc nL fr) (d : decode cc pc = .ok (.iinc 10 n, 3)) (hv : x + Int32.ofInt n = v) (hn : wt_nl (a0 :: a1 :: a2 :: a3 :: a4 :: a5 :: a6 :: a7 :: a8 :: a9 :: some (.int x) :: r) 10 = true) (k : wt_V G X (pc + 3) (a0 :: a1 :: a2 :: a3 :: a4 :: a5 :: a6 :: a7 :: a8 :: a9 :: some (.int v) :: r) st Z kc ks) : wt_V G X pc (a0 :: a1 :: a2 :: a3 :: a4 :: a5 :: a6 :: a7 :: a8 :: a9 :: some (.int x) :: r) st Z kc ks := by
  obtain ⟨p, l', e, Rm, s, m, args, below, meth, c, Q⟩ := X
  obtain ⟨-, hx, hb, hown, hts, -⟩ := hc
  intro H locs cells slots ls hZ hS hcl hsl hl
  have h1 : lv_has ls (a0 :: a1 :: a2 :: a3 :: a4 :: a5 :: a6 :: a7 :: a8 :: a9 :: some (.int x) :: r).length (((10, Value.int x)) :: wt_as 0 (a0 :: a1 :: a2 :: a3 :: a4 :: a5 :: a6 :: a7 :: a8 :: a9 :: some (.int x) :: r)) := by
    refine ⟨hl.1, hl.2.1, fun q hq => ?_⟩
    rcases List.mem_cons.mp hq with rfl | hq
    · exact hl.2.2 10 _ (by rfl)
    · exact hl.has.2.2 q hq
  refine lv_iinc (k := 0) hx hb d h1 rfl hv (by simp only [List.length_cons]; omega) rfl (fun ls' hl' => k H locs cells slots ls' hZ hS hcl hsl (wt_lv.st1 hn (by simp only [List.length_cons]; omega) ?_))
  refine wt_has_sub hl' (fun q hq => ?_)
  rcases List.mem_cons.mp hq with rfl | hq
  · exact List.mem_cons_self
  · exact List.mem_cons_of_mem _ (List.mem_filter.mpr ⟨List.mem_cons_of_mem _ (List.mem_filter.mp hq).1, (List.mem_filter.mp hq).2⟩)
theorem wt_iload_11 {pc : Nat} {a0 a1 a2 a3 a4 a5 a6 a7 a8 a9 a10 : Option Value} {r : List (Option Value)} {x : Int32} (hc : wt_Cx l G X y cc nL fr) (d : decode cc pc = .ok (.iload 11, 2)) (k : wt_V G X (pc + 2) (a0 :: a1 :: a2 :: a3 :: a4 :: a5 :: a6 :: a7 :: a8 :: a9 :: a10 :: some (.int x) :: r) (.int x :: st) Z kc ks) : wt_V G X pc (a0 :: a1 :: a2 :: a3 :: a4 :: a5 :: a6 :: a7 :: a8 :: a9 :: a10 :: some (.int x) :: r) st Z kc ks := by
  obtain ⟨p, l', e, Rm, s, m, args, below, meth, c, Q⟩ := X
  obtain ⟨-, hx, hb, hown, hts, -⟩ := hc
  exact fun H locs cells slots ls hZ hS hcl hsl hl => lv_iload hx hb d (hl.2.2 11 (.int x) (by rfl)) (k H locs cells slots ls hZ hS hcl hsl hl)
theorem wt_lload_11 {pc : Nat} {a0 a1 a2 a3 a4 a5 a6 a7 a8 a9 a10 : Option Value} {r : List (Option Value)} {x : Int64} (hc : wt_Cx l G X y cc nL fr) (d : decode cc pc = .ok (.lload 11, 2)) (k : wt_V G X (pc + 2) (a0 :: a1 :: a2 :: a3 :: a4 :: a5 :: a6 :: a7 :: a8 :: a9 :: a10 :: some (.long x) :: r) (.long x :: st) Z kc ks) : wt_V G X pc (a0 :: a1 :: a2 :: a3 :: a4 :: a5 :: a6 :: a7 :: a8 :: a9 :: a10 :: some (.long x) :: r) st Z kc ks := by
  obtain ⟨p, l', e, Rm, s, m, args, below, meth, c, Q⟩ := X
  obtain ⟨-, hx, hb, hown, hts, -⟩ := hc
  exact fun H locs cells slots ls hZ hS hcl hsl hl => lv_lload hx hb d (hl.2.2 11 (.long x) (by rfl)) (k H locs cells slots ls hZ hS hcl hsl hl)
theorem wt_aload_11 {pc : Nat} {a0 a1 a2 a3 a4 a5 a6 a7 a8 a9 a10 : Option Value} {r : List (Option Value)} {x : Nat} (hc : wt_Cx l G X y cc nL fr) (d : decode cc pc = .ok (.aload 11, 2)) (k : wt_V G X (pc + 2) (a0 :: a1 :: a2 :: a3 :: a4 :: a5 :: a6 :: a7 :: a8 :: a9 :: a10 :: some (.ref x) :: r) (.ref x :: st) Z kc ks) : wt_V G X pc (a0 :: a1 :: a2 :: a3 :: a4 :: a5 :: a6 :: a7 :: a8 :: a9 :: a10 :: some (.ref x) :: r) st Z kc ks := by
  obtain ⟨p, l', e, Rm, s, m, args, below, meth, c, Q⟩ := X
  obtain ⟨-, hx, hb, hown, hts, -⟩ := hc
  exact fun H locs cells slots ls hZ hS hcl hsl hl => lv_aload hx hb d (hl.2.2 11 (.ref x) (by rfl)) (k H locs cells slots ls hZ hS hcl hsl hl)
theorem wt_aloadN_11 {pc : Nat} {a0 a1 a2 a3 a4 a5 a6 a7 a8 a9 a10 : Option Value} {r : List (Option Value)} (hc : wt_Cx l G X y cc nL fr) (d : decode cc pc = .ok (.aload 11, 2)) (k : wt_V G X (pc + 2) (a0 :: a1 :: a2 :: a3 :: a4 :: a5 :: a6 :: a7 :: a8 :: a9 :: a10 :: some .null :: r) (.null :: st) Z kc ks) : wt_V G X pc (a0 :: a1 :: a2 :: a3 :: a4 :: a5 :: a6 :: a7 :: a8 :: a9 :: a10 :: some .null :: r) st Z kc ks := by
  obtain ⟨p, l', e, Rm, s, m, args, below, meth, c, Q⟩ := X
  obtain ⟨-, hx, hb, hown, hts, -⟩ := hc
  exact fun H locs cells slots ls hZ hS hcl hsl hl => lv_aloadN hx hb d (hl.2.2 11 .null (by rfl)) (k H locs cells slots ls hZ hS hcl hsl hl)
theorem wt_istore_11 {pc : Nat} {a0 a1 a2 a3 a4 a5 a6 a7 a8 a9 a10 : Option Value} {b : Option Value} {r : List (Option Value)} {x : Int32} (hc : wt_Cx l G X y cc nL fr) (d : decode cc pc = .ok (.istore 11, 2)) (hn : wt_nl (a0 :: a1 :: a2 :: a3 :: a4 :: a5 :: a6 :: a7 :: a8 :: a9 :: a10 :: b :: r) 11 = true) (k : wt_V G X (pc + 2) (a0 :: a1 :: a2 :: a3 :: a4 :: a5 :: a6 :: a7 :: a8 :: a9 :: a10 :: some (.int x) :: r) st Z kc ks) : wt_V G X pc (a0 :: a1 :: a2 :: a3 :: a4 :: a5 :: a6 :: a7 :: a8 :: a9 :: a10 :: b :: r) (.int x :: st) Z kc ks := by
  obtain ⟨p, l', e, Rm, s, m, args, below, meth, c, Q⟩ := X
  obtain ⟨-, hx, hb, hown, hts, -⟩ := hc
  exact fun H locs cells slots ls hZ hS hcl hsl hl => lv_istore hx hb d hl.has (by simp only [List.length_cons]; omega) rfl (fun ls' hl' => k H locs cells slots ls' hZ hS hcl hsl (wt_lv.st1 hn (by simp only [List.length_cons]; omega) hl'))
theorem wt_astore_11 {pc : Nat} {a0 a1 a2 a3 a4 a5 a6 a7 a8 a9 a10 : Option Value} {b : Option Value} {r : List (Option Value)} {x : Nat} (hc : wt_Cx l G X y cc nL fr) (d : decode cc pc = .ok (.astore 11, 2)) (hn : wt_nl (a0 :: a1 :: a2 :: a3 :: a4 :: a5 :: a6 :: a7 :: a8 :: a9 :: a10 :: b :: r) 11 = true) (k : wt_V G X (pc + 2) (a0 :: a1 :: a2 :: a3 :: a4 :: a5 :: a6 :: a7 :: a8 :: a9 :: a10 :: some (.ref x) :: r) st Z kc ks) : wt_V G X pc (a0 :: a1 :: a2 :: a3 :: a4 :: a5 :: a6 :: a7 :: a8 :: a9 :: a10 :: b :: r) (.ref x :: st) Z kc ks := by
  obtain ⟨p, l', e, Rm, s, m, args, below, meth, c, Q⟩ := X
  obtain ⟨-, hx, hb, hown, hts, -⟩ := hc
  exact fun H locs cells slots ls hZ hS hcl hsl hl => lv_astore hx hb d hl.has (by simp only [List.length_cons]; omega) rfl (fun ls' hl' => k H locs cells slots ls' hZ hS hcl hsl (wt_lv.st1 hn (by simp only [List.length_cons]; omega) hl'))
theorem wt_astoreN_11 {pc : Nat} {a0 a1 a2 a3 a4 a5 a6 a7 a8 a9 a10 : Option Value} {b : Option Value} {r : List (Option Value)} (hc : wt_Cx l G X y cc nL fr) (d : decode cc pc = .ok (.astore 11, 2)) (hn : wt_nl (a0 :: a1 :: a2 :: a3 :: a4 :: a5 :: a6 :: a7 :: a8 :: a9 :: a10 :: b :: r) 11 = true) (k : wt_V G X (pc + 2) (a0 :: a1 :: a2 :: a3 :: a4 :: a5 :: a6 :: a7 :: a8 :: a9 :: a10 :: some (.null) :: r) st Z kc ks) : wt_V G X pc (a0 :: a1 :: a2 :: a3 :: a4 :: a5 :: a6 :: a7 :: a8 :: a9 :: a10 :: b :: r) (.null :: st) Z kc ks := by
  obtain ⟨p, l', e, Rm, s, m, args, below, meth, c, Q⟩ := X
  obtain ⟨-, hx, hb, hown, hts, -⟩ := hc
  exact fun H locs cells slots ls hZ hS hcl hsl hl => lv_astoreN hx hb d hl.has (by simp only [List.length_cons]; omega) rfl (fun ls' hl' => k H locs cells slots ls' hZ hS hcl hsl (wt_lv.st1 hn (by simp only [List.length_cons]; omega) hl'))
theorem wt_lstore_11 {pc : Nat} {a0 a1 a2 a3 a4 a5 a6 a7 a8 a9 a10 : Option Value} {b b2 : Option Value} {r : List (Option Value)} {x : Int64} (hc : wt_Cx l G X y cc nL fr) (d : decode cc pc = .ok (.lstore 11, 2)) (hn : wt_nl (a0 :: a1 :: a2 :: a3 :: a4 :: a5 :: a6 :: a7 :: a8 :: a9 :: a10 :: b :: b2 :: r) 11 = true) (k : wt_V G X (pc + 2) (a0 :: a1 :: a2 :: a3 :: a4 :: a5 :: a6 :: a7 :: a8 :: a9 :: a10 :: some (.long x) :: none :: r) st Z kc ks) : wt_V G X pc (a0 :: a1 :: a2 :: a3 :: a4 :: a5 :: a6 :: a7 :: a8 :: a9 :: a10 :: b :: b2 :: r) (.long x :: st) Z kc ks := by
  obtain ⟨p, l', e, Rm, s, m, args, below, meth, c, Q⟩ := X
  obtain ⟨-, hx, hb, hown, hts, -⟩ := hc
  exact fun H locs cells slots ls hZ hS hcl hsl hl => lv_lstore hx hb d hl.has (by simp only [List.length_cons]; omega) rfl (fun ls' hl' => k H locs cells slots ls' hZ hS hcl hsl (wt_lv.st2 hn (by simp only [List.length_cons]; omega) hl'))
theorem wt_iinc_11 {pc : Nat} {a0 a1 a2 a3 a4 a5 a6 a7 a8 a9 a10 : Option Value} {r : List (Option Value)} {n : Int} {x v : Int32} (hc : wt_Cx l G X y cc nL fr) (d : decode cc pc = .ok (.iinc 11 n, 3)) (hv : x + Int32.ofInt n = v) (hn : wt_nl (a0 :: a1 :: a2 :: a3 :: a4 :: a5 :: a6 :: a7 :: a8 :: a9 :: a10 :: some (.int x) :: r) 11 = true) (k : wt_V G X (pc + 3) (a0 :: a1 :: a2 :: a3 :: a4 :: a5 :: a6 :: a7 :: a8 :: a9 :: a10 :: some (.int v) :: r) st Z kc ks) : wt_V G X pc (a0 :: a1 :: a2 :: a3 :: a4 :: a5 :: a6 :: a7 :: a8 :: a9 :: a10 :: some (.int x) :: r) st Z kc ks := by
  obtain ⟨p, l', e, Rm, s, m, args, below, meth, c, Q⟩ := X
  obtain ⟨-, hx, hb, hown, hts, -⟩ := hc
  intro H locs cells slots ls hZ hS hcl hsl hl
  have h1 : lv_has ls (a0 :: a1 :: a2 :: a3 :: a4 :: a5 :: a6 :: a7 :: a8 :: a9 :: a10 :: some (.int x) :: r).length (((11, Value.int x)) :: wt_as 0 (a0 :: a1 :: a2 :: a3 :: a4 :: a5 :: a6 :: a7 :: a8 :: a9 :: a10 :: some (.int x) :: r)) := by
    refine ⟨hl.1, hl.2.1, fun q hq => ?_⟩
    rcases List.mem_cons.mp hq with rfl | hq
    · exact hl.2.2 11 _ (by rfl)
    · exact hl.has.2.2 q hq
  refine lv_iinc (k := 0) hx hb d h1 rfl hv (by simp only [List.length_cons]; omega) rfl (fun ls' hl' => k H locs cells slots ls' hZ hS hcl hsl (wt_lv.st1 hn (by simp only [List.length_cons]; omega) ?_))
  refine wt_has_sub hl' (fun q hq => ?_)
  rcases List.mem_cons.mp hq with rfl | hq
  · exact List.mem_cons_self
  · exact List.mem_cons_of_mem _ (List.mem_filter.mpr ⟨List.mem_cons_of_mem _ (List.mem_filter.mp hq).1, (List.mem_filter.mp hq).2⟩)
theorem wt_iload_12 {pc : Nat} {a0 a1 a2 a3 a4 a5 a6 a7 a8 a9 a10 a11 : Option Value} {r : List (Option Value)} {x : Int32} (hc : wt_Cx l G X y cc nL fr) (d : decode cc pc = .ok (.iload 12, 2)) (k : wt_V G X (pc + 2) (a0 :: a1 :: a2 :: a3 :: a4 :: a5 :: a6 :: a7 :: a8 :: a9 :: a10 :: a11 :: some (.int x) :: r) (.int x :: st) Z kc ks) : wt_V G X pc (a0 :: a1 :: a2 :: a3 :: a4 :: a5 :: a6 :: a7 :: a8 :: a9 :: a10 :: a11 :: some (.int x) :: r) st Z kc ks := by
  obtain ⟨p, l', e, Rm, s, m, args, below, meth, c, Q⟩ := X
  obtain ⟨-, hx, hb, hown, hts, -⟩ := hc
  exact fun H locs cells slots ls hZ hS hcl hsl hl => lv_iload hx hb d (hl.2.2 12 (.int x) (by rfl)) (k H locs cells slots ls hZ hS hcl hsl hl)
theorem wt_lload_12 {pc : Nat} {a0 a1 a2 a3 a4 a5 a6 a7 a8 a9 a10 a11 : Option Value} {r : List (Option Value)} {x : Int64} (hc : wt_Cx l G X y cc nL fr) (d : decode cc pc = .ok (.lload 12, 2)) (k : wt_V G X (pc + 2) (a0 :: a1 :: a2 :: a3 :: a4 :: a5 :: a6 :: a7 :: a8 :: a9 :: a10 :: a11 :: some (.long x) :: r) (.long x :: st) Z kc ks) : wt_V G X pc (a0 :: a1 :: a2 :: a3 :: a4 :: a5 :: a6 :: a7 :: a8 :: a9 :: a10 :: a11 :: some (.long x) :: r) st Z kc ks := by
  obtain ⟨p, l', e, Rm, s, m, args, below, meth, c, Q⟩ := X
  obtain ⟨-, hx, hb, hown, hts, -⟩ := hc
  exact fun H locs cells slots ls hZ hS hcl hsl hl => lv_lload hx hb d (hl.2.2 12 (.long x) (by rfl)) (k H locs cells slots ls hZ hS hcl hsl hl)
theorem wt_aload_12 {pc : Nat} {a0 a1 a2 a3 a4 a5 a6 a7 a8 a9 a10 a11 : Option Value} {r : List (Option Value)} {x : Nat} (hc : wt_Cx l G X y cc nL fr) (d : decode cc pc = .ok (.aload 12, 2)) (k : wt_V G X (pc + 2) (a0 :: a1 :: a2 :: a3 :: a4 :: a5 :: a6 :: a7 :: a8 :: a9 :: a10 :: a11 :: some (.ref x) :: r) (.ref x :: st) Z kc ks) : wt_V G X pc (a0 :: a1 :: a2 :: a3 :: a4 :: a5 :: a6 :: a7 :: a8 :: a9 :: a10 :: a11 :: some (.ref x) :: r) st Z kc ks := by
  obtain ⟨p, l', e, Rm, s, m, args, below, meth, c, Q⟩ := X
  obtain ⟨-, hx, hb, hown, hts, -⟩ := hc
  exact fun H locs cells slots ls hZ hS hcl hsl hl => lv_aload hx hb d (hl.2.2 12 (.ref x) (by rfl)) (k H locs cells slots ls hZ hS hcl hsl hl)
theorem wt_aloadN_12 {pc : Nat} {a0 a1 a2 a3 a4 a5 a6 a7 a8 a9 a10 a11 : Option Value} {r : List (Option Value)} (hc : wt_Cx l G X y cc nL fr) (d : decode cc pc = .ok (.aload 12, 2)) (k : wt_V G X (pc + 2) (a0 :: a1 :: a2 :: a3 :: a4 :: a5 :: a6 :: a7 :: a8 :: a9 :: a10 :: a11 :: some .null :: r) (.null :: st) Z kc ks) : wt_V G X pc (a0 :: a1 :: a2 :: a3 :: a4 :: a5 :: a6 :: a7 :: a8 :: a9 :: a10 :: a11 :: some .null :: r) st Z kc ks := by
  obtain ⟨p, l', e, Rm, s, m, args, below, meth, c, Q⟩ := X
  obtain ⟨-, hx, hb, hown, hts, -⟩ := hc
  exact fun H locs cells slots ls hZ hS hcl hsl hl => lv_aloadN hx hb d (hl.2.2 12 .null (by rfl)) (k H locs cells slots ls hZ hS hcl hsl hl)
theorem wt_istore_12 {pc : Nat} {a0 a1 a2 a3 a4 a5 a6 a7 a8 a9 a10 a11 : Option Value} {b : Option Value} {r : List (Option Value)} {x : Int32} (hc : wt_Cx l G X y cc nL fr) (d : decode cc pc = .ok (.istore 12, 2)) (hn : wt_nl (a0 :: a1 :: a2 :: a3 :: a4 :: a5 :: a6 :: a7 :: a8 :: a9 :: a10 :: a11 :: b :: r) 12 = true) (k : wt_V G X (pc + 2) (a0 :: a1 :: a2 :: a3 :: a4 :: a5 :: a6 :: a7 :: a8 :: a9 :: a10 :: a11 :: some (.int x) :: r) st Z kc ks) : wt_V G X pc (a0 :: a1 :: a2 :: a3 :: a4 :: a5 :: a6 :: a7 :: a8 :: a9 :: a10 :: a11 :: b :: r) (.int x :: st) Z kc ks := by
  obtain ⟨p, l', e, Rm, s, m, args, below, meth, c, Q⟩ := X
  obtain ⟨-, hx, hb, hown, hts, -⟩ := hc
  exact fun H locs cells slots ls hZ hS hcl hsl hl => lv_istore hx hb d hl.has (by simp only [List.length_cons]; omega) rfl (fun ls' hl' => k H locs cells slots ls' hZ hS hcl hsl (wt_lv.st1 hn (by simp only [List.length_cons]; omega) hl'))
theorem wt_astore_12 {pc : Nat} {a0 a1 a2 a3 a4 a5 a6 a7 a8 a9 a10 a11 : Option Value} {b : Option Value} {r : List (Option Value)} {x : Nat} (hc : wt_Cx l G X y cc nL fr) (d : decode cc pc = .ok (.astore 12, 2)) (hn : wt_nl (a0 :: a1 :: a2 :: a3 :: a4 :: a5 :: a6 :: a7 :: a8 :: a9 :: a10 :: a11 :: b :: r) 12 = true) (k : wt_V G X (pc + 2) (a0 :: a1 :: a2 :: a3 :: a4 :: a5 :: a6 :: a7 :: a8 :: a9 :: a10 :: a11 :: some (.ref x) :: r) st Z kc ks) : wt_V G X pc (a0 :: a1 :: a2 :: a3 :: a4 :: a5 :: a6 :: a7 :: a8 :: a9 :: a10 :: a11 :: b :: r) (.ref x :: st) Z kc ks := by
  obtain ⟨p, l', e, Rm, s, m, args, below, meth, c, Q⟩ := X
  obtain ⟨-, hx, hb, hown, hts, -⟩ := hc
  exact fun H locs cells slots ls hZ hS hcl hsl hl => lv_astore hx hb d hl.has (by simp only [List.length_cons]; omega) rfl (fun ls' hl' => k H locs cells slots ls' hZ hS hcl hsl (wt_lv.st1 hn (by simp only [List.length_cons]; omega) hl'))
theorem wt_astoreN_12 {pc : Nat} {a0 a1 a2 a3 a4 a5 a6 a7 a8 a9 a10 a11 : Option Value} {b : Option Value} {r : List (Option Value)} (hc : wt_Cx l G X y cc nL fr) (d : decode cc pc = .ok (.astore 12, 2)) (hn : wt_nl (a0 :: a1 :: a2 :: a3 :: a4 :: a5 :: a6 :: a7 :: a8 :: a9 :: a10 :: a11 :: b :: r) 12 = true) (k : wt_V G X (pc + 2) (a0 :: a1 :: a2 :: a3 :: a4 :: a5 :: a6 :: a7 :: a8 :: a9 :: a10 :: a11 :: some (.null) :: r) st Z kc ks) : wt_V G X pc (a0 :: a1 :: a2 :: a3 :: a4 :: a5 :: a6 :: a7 :: a8 :: a9 :: a10 :: a11 :: b :: r) (.null :: st) Z kc ks := by
  obtain ⟨p, l', e, Rm, s, m, args, below, meth, c, Q⟩ := X
  obtain ⟨-, hx, hb, hown, hts, -⟩ := hc
  exact fun H locs cells slots ls hZ hS hcl hsl hl => lv_astoreN hx hb d hl.has (by simp only [List.length_cons]; omega) rfl (fun ls' hl' => k H locs cells slots ls' hZ hS hcl hsl (wt_lv.st1 hn (by simp only [List.length_cons]; omega) hl'))
theorem wt_lstore_12 {pc : Nat} {a0 a1 a2 a3 a4 a5 a6 a7 a8 a9 a10 a11 : Option Value} {b b2 : Option Value} {r : List (Option Value)} {x : Int64} (hc : wt_Cx l G X y cc nL fr) (d : decode cc pc = .ok (.lstore 12, 2)) (hn : wt_nl (a0 :: a1 :: a2 :: a3 :: a4 :: a5 :: a6 :: a7 :: a8 :: a9 :: a10 :: a11 :: b :: b2 :: r) 12 = true) (k : wt_V G X (pc + 2) (a0 :: a1 :: a2 :: a3 :: a4 :: a5 :: a6 :: a7 :: a8 :: a9 :: a10 :: a11 :: some (.long x) :: none :: r) st Z kc ks) : wt_V G X pc (a0 :: a1 :: a2 :: a3 :: a4 :: a5 :: a6 :: a7 :: a8 :: a9 :: a10 :: a11 :: b :: b2 :: r) (.long x :: st) Z kc ks := by
  obtain ⟨p, l', e, Rm, s, m, args, below, meth, c, Q⟩ := X
  obtain ⟨-, hx, hb, hown, hts, -⟩ := hc
  exact fun H locs cells slots ls hZ hS hcl hsl hl => lv_lstore hx hb d hl.has (by simp only [List.length_cons]; omega) rfl (fun ls' hl' => k H locs cells slots ls' hZ hS hcl hsl (wt_lv.st2 hn (by simp only [List.length_cons]; omega) hl'))
theorem wt_iinc_12 {pc : Nat} {a0 a1 a2 a3 a4 a5 a6 a7 a8 a9 a10 a11 : Option Value} {r : List (Option Value)} {n : Int} {x v : Int32} (hc : wt_Cx l G X y cc nL fr) (d : decode cc pc = .ok (.iinc 12 n, 3)) (hv : x + Int32.ofInt n = v) (hn : wt_nl (a0 :: a1 :: a2 :: a3 :: a4 :: a5 :: a6 :: a7 :: a8 :: a9 :: a10 :: a11 :: some (.int x) :: r) 12 = true) (k : wt_V G X (pc + 3) (a0 :: a1 :: a2 :: a3 :: a4 :: a5 :: a6 :: a7 :: a8 :: a9 :: a10 :: a11 :: some (.int v) :: r) st Z kc ks) : wt_V G X pc (a0 :: a1 :: a2 :: a3 :: a4 :: a5 :: a6 :: a7 :: a8 :: a9 :: a10 :: a11 :: some (.int x) :: r) st Z kc ks := by
  obtain ⟨p, l', e, Rm, s, m, args, below, meth, c, Q⟩ := X
  obtain ⟨-, hx, hb, hown, hts, -⟩ := hc
  intro H locs cells slots ls hZ hS hcl hsl hl
  have h1 : lv_has ls (a0 :: a1 :: a2 :: a3 :: a4 :: a5 :: a6 :: a7 :: a8 :: a9 :: a10 :: a11 :: some (.int x) :: r).length (((12, Value.int x)) :: wt_as 0 (a0 :: a1 :: a2 :: a3 :: a4 :: a5 :: a6 :: a7 :: a8 :: a9 :: a10 :: a11 :: some (.int x) :: r)) := by
    refine ⟨hl.1, hl.2.1, fun q hq => ?_⟩
    rcases List.mem_cons.mp hq with rfl | hq
    · exact hl.2.2 12 _ (by rfl)
    · exact hl.has.2.2 q hq
  refine lv_iinc (k := 0) hx hb d h1 rfl hv (by simp only [List.length_cons]; omega) rfl (fun ls' hl' => k H locs cells slots ls' hZ hS hcl hsl (wt_lv.st1 hn (by simp only [List.length_cons]; omega) ?_))
  refine wt_has_sub hl' (fun q hq => ?_)
  rcases List.mem_cons.mp hq with rfl | hq
  · exact List.mem_cons_self
  · exact List.mem_cons_of_mem _ (List.mem_filter.mpr ⟨List.mem_cons_of_mem _ (List.mem_filter.mp hq).1, (List.mem_filter.mp hq).2⟩)
theorem wt_iload_13 {pc : Nat} {a0 a1 a2 a3 a4 a5 a6 a7 a8 a9 a10 a11 a12 : Option Value} {r : List (Option Value)} {x : Int32} (hc : wt_Cx l G X y cc nL fr) (d : decode cc pc = .ok (.iload 13, 2)) (k : wt_V G X (pc + 2) (a0 :: a1 :: a2 :: a3 :: a4 :: a5 :: a6 :: a7 :: a8 :: a9 :: a10 :: a11 :: a12 :: some (.int x) :: r) (.int x :: st) Z kc ks) : wt_V G X pc (a0 :: a1 :: a2 :: a3 :: a4 :: a5 :: a6 :: a7 :: a8 :: a9 :: a10 :: a11 :: a12 :: some (.int x) :: r) st Z kc ks := by
  obtain ⟨p, l', e, Rm, s, m, args, below, meth, c, Q⟩ := X
  obtain ⟨-, hx, hb, hown, hts, -⟩ := hc
  exact fun H locs cells slots ls hZ hS hcl hsl hl => lv_iload hx hb d (hl.2.2 13 (.int x) (by rfl)) (k H locs cells slots ls hZ hS hcl hsl hl)
theorem wt_lload_13 {pc : Nat} {a0 a1 a2 a3 a4 a5 a6 a7 a8 a9 a10 a11 a12 : Option Value} {r : List (Option Value)} {x : Int64} (hc : wt_Cx l G X y cc nL fr) (d : decode cc pc = .ok (.lload 13, 2)) (k : wt_V G X (pc + 2) (a0 :: a1 :: a2 :: a3 :: a4 :: a5 :: a6 :: a7 :: a8 :: a9 :: a10 :: a11 :: a12 :: some (.long x) :: r) (.long x :: st) Z kc ks) : wt_V G X pc (a0 :: a1 :: a2 :: a3 :: a4 :: a5 :: a6 :: a7 :: a8 :: a9 :: a10 :: a11 :: a12 :: some (.long x) :: r) st Z kc ks := by
  obtain ⟨p, l', e, Rm, s, m, args, below, meth, c, Q⟩ := X
  obtain ⟨-, hx, hb, hown, hts, -⟩ := hc
  exact fun H locs cells slots ls hZ hS hcl hsl hl => lv_lload hx hb d (hl.2.2 13 (.long x) (by rfl)) (k H locs cells slots ls hZ hS hcl hsl hl)
theorem wt_aload_13 {pc : Nat} {a0 a1 a2 a3 a4 a5 a6 a7 a8 a9 a10 a11 a12 : Option Value} {r : List (Option Value)} {x : Nat} (hc : wt_Cx l G X y cc nL fr) (d : decode cc pc = .ok (.aload 13, 2)) (k : wt_V G X (pc + 2) (a0 :: a1 :: a2 :: a3 :: a4 :: a5 :: a6 :: a7 :: a8 :: a9 :: a10 :: a11 :: a12 :: some (.ref x) :: r) (.ref x :: st) Z kc ks) : wt_V G X pc (a0 :: a1 :: a2 :: a3 :: a4 :: a5 :: a6 :: a7 :: a8 :: a9 :: a10 :: a11 :: a12 :: some (.ref x) :: r) st Z kc ks := by
  obtain ⟨p, l', e, Rm, s, m, args, below, meth, c, Q⟩ := X
  obtain ⟨-, hx, hb, hown, hts, -⟩ := hc
  exact fun H locs cells slots ls hZ hS hcl hsl hl => lv_aload hx hb d (hl.2.2 13 (.ref x) (by rfl)) (k H locs cells slots ls hZ hS hcl hsl hl)
theorem wt_aloadN_13 {pc : Nat} {a0 a1 a2 a3 a4 a5 a6 a7 a8 a9 a10 a11 a12 : Option Value} {r : List (Option Value)} (hc : wt_Cx l G X y cc nL fr) (d : decode cc pc = .ok (.aload 13, 2)) (k : wt_V G X (pc + 2) (a0 :: a1 :: a2 :: a3 :: a4 :: a5 :: a6 :: a7 :: a8 :: a9 :: a10 :: a11 :: a12 :: some .null :: r) (.null :: st) Z kc ks) : wt_V G X pc (a0 :: a1 :: a2 :: a3 :: a4 :: a5 :: a6 :: a7 :: a8 :: a9 :: a10 :: a11 :: a12 :: some .null :: r) st Z kc ks := by
  obtain ⟨p, l', e, Rm, s, m, args, below, meth, c, Q⟩ := X
  obtain ⟨-, hx, hb, hown, hts, -⟩ := hc
  exact fun H locs cells slots ls hZ hS hcl hsl hl => lv_aloadN hx hb d (hl.2.2 13 .null (by rfl)) (k H locs cells slots ls hZ hS hcl hsl hl)
theorem wt_istore_13 {pc : Nat} {a0 a1 a2 a3 a4 a5 a6 a7 a8 a9 a10 a11 a12 : Option Value} {b : Option Value} {r : List (Option Value)} {x : Int32} (hc : wt_Cx l G X y cc nL fr) (d : decode cc pc = .ok (.istore 13, 2)) (hn : wt_nl (a0 :: a1 :: a2 :: a3 :: a4 :: a5 :: a6 :: a7 :: a8 :: a9 :: a10 :: a11 :: a12 :: b :: r) 13 = true) (k : wt_V G X (pc + 2) (a0 :: a1 :: a2 :: a3 :: a4 :: a5 :: a6 :: a7 :: a8 :: a9 :: a10 :: a11 :: a12 :: some (.int x) :: r) st Z kc ks) : wt_V G X pc (a0 :: a1 :: a2 :: a3 :: a4 :: a5 :: a6 :: a7 :: a8 :: a9 :: a10 :: a11 :: a12 :: b :: r) (.int x :: st) Z kc ks := by
  obtain ⟨p, l', e, Rm, s, m, args, below, meth, c, Q⟩ := X
  obtain ⟨-, hx, hb, hown, hts, -⟩ := hc
  exact fun H locs cells slots ls hZ hS hcl hsl hl => lv_istore hx hb d hl.has (by simp only [List.length_cons]; omega) rfl (fun ls' hl' => k H locs cells slots ls' hZ hS hcl hsl (wt_lv.st1 hn (by simp only [List.length_cons]; omega) hl'))
theorem wt_astore_13 {pc : Nat} {a0 a1 a2 a3 a4 a5 a6 a7 a8 a9 a10 a11 a12 : Option Value} {b : Option Value} {r : List (Option Value)} {x : Nat} (hc : wt_Cx l G X y cc nL fr) (d : decode cc pc = .ok (.astore 13, 2)) (hn : wt_nl (a0 :: a1 :: a2 :: a3 :: a4 :: a5 :: a6 :: a7 :: a8 :: a9 :: a10 :: a11 :: a12 :: b :: r) 13 = true) (k : wt_V G X (pc + 2) (a0 :: a1 :: a2 :: a3 :: a4 :: a5 :: a6 :: a7 :: a8 :: a9 :: a10 :: a11 :: a12 :: some (.ref x) :: r) st Z kc ks) : wt_V G X pc (a0 :: a1 :: a2 :: a3 :: a4 :: a5 :: a6 :: a7 :: a8 :: a9 :: a10 :: a11 :: a12 :: b :: r) (.ref x :: st) Z kc ks := by
  obtain ⟨p, l', e, Rm, s, m, args, below, meth, c, Q⟩ := X
  obtain ⟨-, hx, hb, hown, hts, -⟩ := hc
  exact fun H locs cells slots ls hZ hS hcl hsl hl => lv_astore hx hb d hl.has (by simp only [List.length_cons]; omega) rfl (fun ls' hl' => k H locs cells slots ls' hZ hS hcl hsl (wt_lv.st1 hn (by simp only [List.length_cons]; omega) hl'))
theorem wt_astoreN_13 {pc : Nat} {a0 a1 a2 a3 a4 a5 a6 a7 a8 a9 a10 a11 a12 : Option Value} {b : Option Value} {r : List (Option Value)} (hc : wt_Cx l G X y cc nL fr) (d : decode cc pc = .ok (.astore 13, 2)) (hn : wt_nl (a0 :: a1 :: a2 :: a3 :: a4 :: a5 :: a6 :: a7 :: a8 :: a9 :: a10 :: a11 :: a12 :: b :: r) 13 = true) (k : wt_V G X (pc + 2) (a0 :: a1 :: a2 :: a3 :: a4 :: a5 :: a6 :: a7 :: a8 :: a9 :: a10 :: a11 :: a12 :: some (.null) :: r) st Z kc ks) : wt_V G X pc (a0 :: a1 :: a2 :: a3 :: a4 :: a5 :: a6 :: a7 :: a8 :: a9 :: a10 :: a11 :: a12 :: b :: r) (.null :: st) Z kc ks := by
  obtain ⟨p, l', e, Rm, s, m, args, below, meth, c, Q⟩ := X
  obtain ⟨-, hx, hb, hown, hts, -⟩ := hc
  exact fun H locs cells slots ls hZ hS hcl hsl hl => lv_astoreN hx hb d hl.has (by simp only [List.length_cons]; omega) rfl (fun ls' hl' => k H locs cells slots ls' hZ hS hcl hsl (wt_lv.st1 hn (by simp only [List.length_cons]; omega) hl'))
theorem wt_lstore_13 {pc : Nat} {a0 a1 a2 a3 a4 a5 a6 a7 a8 a9 a10 a11 a12 : Option Value} {b b2 : Option Value} {r : List (Option Value)} {x : Int64} (hc : wt_Cx l G X y cc nL fr) (d : decode cc pc = .ok (.lstore 13, 2)) (hn : wt_nl (a0 :: a1 :: a2 :: a3 :: a4 :: a5 :: a6 :: a7 :: a8 :: a9 :: a10 :: a11 :: a12 :: b :: b2 :: r) 13 = true) (k : wt_V G X (pc + 2) (a0 :: a1 :: a2 :: a3 :: a4 :: a5 :: a6 :: a7 :: a8 :: a9 :: a10 :: a11 :: a12 :: some (.long x) :: none :: r) st Z kc ks) : wt_V G X pc (a0 :: a1 :: a2 :: a3 :: a4 :: a5 :: a6 :: a7 :: a8 :: a9 :: a10 :: a11 :: a12 :: b :: b2 :: r) (.long x :: st) Z kc ks := by
  obtain ⟨p, l', e, Rm, s, m, args, below, meth, c, Q⟩ := X
  obtain ⟨-, hx, hb, hown, hts, -⟩ := hc
  exact fun H locs cells slots ls hZ hS hcl hsl hl => lv_lstore hx hb d hl.has (by simp only [List.length_cons]; omega) rfl (fun ls' hl' => k H locs cells slots ls' hZ hS hcl hsl (wt_lv.st2 hn (by simp only [List.length_cons]; omega) hl'))
theorem wt_iinc_13 {pc : Nat} {a0 a1 a2 a3 a4 a5 a6 a7 a8 a9 a10 a11 a12 : Option Value} {r : List (Option Value)} {n : Int} {x v : Int32} (hc : wt_Cx l G X y cc nL fr) (d : decode cc pc = .ok (.iinc 13 n, 3)) (hv : x + Int32.ofInt n = v) (hn : wt_nl (a0 :: a1 :: a2 :: a3 :: a4 :: a5 :: a6 :: a7 :: a8 :: a9 :: a10 :: a11 :: a12 :: some (.int x) :: r) 13 = true) (k : wt_V G X (pc + 3) (a0 :: a1 :: a2 :: a3 :: a4 :: a5 :: a6 :: a7 :: a8 :: a9 :: a10 :: a11 :: a12 :: some (.int v) :: r) st Z kc ks) : wt_V G X pc (a0 :: a1 :: a2 :: a3 :: a4 :: a5 :: a6 :: a7 :: a8 :: a9 :: a10 :: a11 :: a12 :: some (.int x) :: r) st Z kc ks := by
  obtain ⟨p, l', e, Rm, s, m, args, below, meth, c, Q⟩ := X
  obtain ⟨-, hx, hb, hown, hts, -⟩ := hc
  intro H locs cells slots ls hZ hS hcl hsl hl
  have h1 : lv_has ls (a0 :: a1 :: a2 :: a3 :: a4 :: a5 :: a6 :: a7 :: a8 :: a9 :: a10 :: a11 :: a12 :: some (.int x) :: r).length (((13, Value.int x)) :: wt_as 0 (a0 :: a1 :: a2 :: a3 :: a4 :: a5 :: a6 :: a7 :: a8 :: a9 :: a10 :: a11 :: a12 :: some (.int x) :: r)) := by
    refine ⟨hl.1, hl.2.1, fun q hq => ?_⟩
    rcases List.mem_cons.mp hq with rfl | hq
    · exact hl.2.2 13 _ (by rfl)
    · exact hl.has.2.2 q hq
  refine lv_iinc (k := 0) hx hb d h1 rfl hv (by simp only [List.length_cons]; omega) rfl (fun ls' hl' => k H locs cells slots ls' hZ hS hcl hsl (wt_lv.st1 hn (by simp only [List.length_cons]; omega) ?_))
  refine wt_has_sub hl' (fun q hq => ?_)
  rcases List.mem_cons.mp hq with rfl | hq
  · exact List.mem_cons_self
  · exact List.mem_cons_of_mem _ (List.mem_filter.mpr ⟨List.mem_cons_of_mem _ (List.mem_filter.mp hq).1, (List.mem_filter.mp hq).2⟩)
theorem wt_iload_14 {pc : Nat} {a0 a1 a2 a3 a4 a5 a6 a7 a8 a9 a10 a11 a12 a13 : Option Value} {r : List (Option Value)} {x : Int32} (hc : wt_Cx l G X y cc nL fr) (d : decode cc pc = .ok (.iload 14, 2)) (k : wt_V G X (pc + 2) (a0 :: a1 :: a2 :: a3 :: a4 :: a5 :: a6 :: a7 :: a8 :: a9 :: a10 :: a11 :: a12 :: a13 :: some (.int x) :: r) (.int x :: st) Z kc ks) : wt_V G X pc (a0 :: a1 :: a2 :: a3 :: a4 :: a5 :: a6 :: a7 :: a8 :: a9 :: a10 :: a11 :: a12 :: a13 :: some (.int x) :: r) st Z kc ks := by
  obtain ⟨p, l', e, Rm, s, m, args, below, meth, c, Q⟩ := X
  obtain ⟨-, hx, hb, hown, hts, -⟩ := hc
  exact fun H locs cells slots ls hZ hS hcl hsl hl => lv_iload hx hb d (hl.2.2 14 (.int x) (by rfl)) (k H locs cells slots ls hZ hS hcl hsl hl)
theorem wt_lload_14 {pc : Nat} {a0 a1 a2 a3 a4 a5 a6 a7 a8 a9 a10 a11 a12 a13 : Option Value} {r : List (Option Value)} {x : Int64} (hc : wt_Cx l G X y cc nL fr) (d : decode cc pc = .ok (.lload 14, 2)) (k : wt_V G X (pc + 2) (a0 :: a1 :: a2 :: a3 :: a4 :: a5 :: a6 :: a7 :: a8 :: a9 :: a10 :: a11 :: a12 :: a13 :: some (.long x) :: r) (.long x :: st) Z kc ks) : wt_V G X pc (a0 :: a1 :: a2 :: a3 :: a4 :: a5 :: a6 :: a7 :: a8 :: a9 :: a10 :: a11 :: a12 :: a13 :: some (.long x) :: r) st Z kc ks := by
  obtain ⟨p, l', e, Rm, s, m, args, below, meth, c, Q⟩ := X
  obtain ⟨-, hx, hb, hown, hts, -⟩ := hc
  exact fun H locs cells slots ls hZ hS hcl hsl hl => lv_lload hx hb d (hl.2.2 14 (.long x) (by rfl)) (k H locs cells slots ls hZ hS hcl hsl hl)
theorem wt_aload_14 {pc : Nat} {a0 a1 a2 a3 a4 a5 a6 a7 a8 a9 a10 a11 a12 a13 : Option Value} {r : List (Option Value)} {x : Nat} (hc : wt_Cx l G X y cc nL fr) (d : decode cc pc = .ok (.aload 14, 2)) (k : wt_V G X (pc + 2) (a0 :: a1 :: a2 :: a3 :: a4 :: a5 :: a6 :: a7 :: a8 :: a9 :: a10 :: a11 :: a12 :: a13 :: some (.ref x) :: r) (.ref x :: st) Z kc ks) : wt_V G X pc (a0 :: a1 :: a2 :: a3 :: a4 :: a5 :: a6 :: a7 :: a8 :: a9 :: a10 :: a11 :: a12 :: a13 :: some (.ref x) :: r) st Z kc ks := by
  obtain ⟨p, l', e, Rm, s, m, args, below, meth, c, Q⟩ := X
  obtain ⟨-, hx, hb, hown, hts, -⟩ := hc
  exact fun H locs cells slots ls hZ hS hcl hsl hl => lv_aload hx hb d (hl.2.2 14 (.ref x) (by rfl)) (k H locs cells slots ls hZ hS hcl hsl hl)
theorem wt_aloadN_14 {pc : Nat} {a0 a1 a2 a3 a4 a5 a6 a7 a8 a9 a10 a11 a12 a13 : Option Value} {r : List (Option Value)} (hc : wt_Cx l G X y cc nL fr) (d : decode cc pc = .ok (.aload 14, 2)) (k : wt_V G X (pc + 2) (a0 :: a1 :: a2 :: a3 :: a4 :: a5 :: a6 :: a7 :: a8 :: a9 :: a10 :: a11 :: a12 :: a13 :: some .null :: r) (.null :: st) Z kc ks) : wt_V G X pc (a0 :: a1 :: a2 :: a3 :: a4 :: a5 :: a6 :: a7 :: a8 :: a9 :: a10 :: a11 :: a12 :: a13 :: some .null :: r) st Z kc ks := by
  obtain ⟨p, l', e, Rm, s, m, args, below, meth, c, Q⟩ := X
  obtain ⟨-, hx, hb, hown, hts, -⟩ := hc
  exact fun H locs cells slots ls hZ hS hcl hsl hl => lv_aloadN hx hb d (hl.2.2 14 .null (by rfl)) (k H locs cells slots ls hZ hS hcl hsl hl)
theorem wt_istore_14 {pc : Nat} {a0 a1 a2 a3 a4 a5 a6 a7 a8 a9 a10 a11 a12 a13 : Option Value} {b : Option Value} {r : List (Option Value)} {x : Int32} (hc : wt_Cx l G X y cc nL fr) (d : decode cc pc = .ok (.istore 14, 2)) (hn : wt_nl (a0 :: a1 :: a2 :: a3 :: a4 :: a5 :: a6 :: a7 :: a8 :: a9 :: a10 :: a11 :: a12 :: a13 :: b :: r) 14 = true) (k : wt_V G X (pc + 2) (a0 :: a1 :: a2 :: a3 :: a4 :: a5 :: a6 :: a7 :: a8 :: a9 :: a10 :: a11 :: a12 :: a13 :: some (.int x) :: r) st Z kc ks) : wt_V G X pc (a0 :: a1 :: a2 :: a3 :: a4 :: a5 :: a6 :: a7 :: a8 :: a9 :: a10 :: a11 :: a12 :: a13 :: b :: r) (.int x :: st) Z kc ks := by
  obtain ⟨p, l', e, Rm, s, m, args, below, meth, c, Q⟩ := X
  obtain ⟨-, hx, hb, hown, hts, -⟩ := hc
  exact fun H locs cells slots ls hZ hS hcl hsl hl => lv_istore hx hb d hl.has (by simp only [List.length_cons]; omega) rfl (fun ls' hl' => k H locs cells slots ls' hZ hS hcl hsl (wt_lv.st1 hn (by simp only [List.length_cons]; omega) hl'))
theorem wt_astore_14 {pc : Nat} {a0 a1 a2 a3 a4 a5 a6 a7 a8 a9 a10 a11 a12 a13 : Option Value} {b : Option Value} {r : List (Option Value)} {x : Nat} (hc : wt_Cx l G X y cc nL fr) (d : decode cc pc = .ok (.astore 14, 2)) (hn : wt_nl (a0 :: a1 :: a2 :: a3 :: a4 :: a5 :: a6 :: a7 :: a8 :: a9 :: a10 :: a11 :: a12 :: a13 :: b :: r) 14 = true) (k : wt_V G X (pc + 2) (a0 :: a1 :: a2 :: a3 :: a4 :: a5 :: a6 :: a7 :: a8 :: a9 :: a10 :: a11 :: a12 :: a13 :: some (.ref x) :: r) st Z kc ks) : wt_V G X pc (a0 :: a1 :: a2 :: a3 :: a4 :: a5 :: a6 :: a7 :: a8 :: a9 :: a10 :: a11 :: a12 :: a13 :: b :: r) (.ref x :: st) Z kc ks := by
  obtain ⟨p, l', e, Rm, s, m, args, below, meth, c, Q⟩ := X
  obtain ⟨-, hx, hb, hown, hts, -⟩ := hc
  exact fun H locs cells slots ls hZ hS hcl hsl hl => lv_astore hx hb d hl.has (by simp only [List.length_cons]; omega) rfl (fun ls' hl' => k H locs cells slots ls' hZ hS hcl hsl (wt_lv.st1 hn (by simp only [List.length_cons]; omega) hl'))
theorem wt_astoreN_14 {pc : Nat} {a0 a1 a2 a3 a4 a5 a6 a7 a8 a9 a10 a11 a12 a13 : Option Value} {b : Option Value} {r : List (Option Value)} (hc : wt_Cx l G X y cc nL fr) (d : decode cc pc = .ok (.astore 14, 2)) (hn : wt_nl (a0 :: a1 :: a2 :: a3 :: a4 :: a5 :: a6 :: a7 :: a8 :: a9 :: a10 :: a11 :: a12 :: a13 :: b :: r) 14 = true) (k : wt_V G X (pc + 2) (a0 :: a1 :: a2 :: a3 :: a4 :: a5 :: a6 :: a7 :: a8 :: a9 :: a10 :: a11 :: a12 :: a13 :: some (.null) :: r) st Z kc ks) : wt_V G X pc (a0 :: a1 :: a2 :: a3 :: a4 :: a5 :: a6 :: a7 :: a8 :: a9 :: a10 :: a11 :: a12 :: a13 :: b :: r) (.null :: st) Z kc ks := by
  obtain ⟨p, l', e, Rm, s, m, args, below, meth, c, Q⟩ := X
  obtain ⟨-, hx, hb, hown, hts, -⟩ := hc
  exact fun H locs cells slots ls hZ hS hcl hsl hl => lv_astoreN hx hb d hl.has (by simp only [List.length_cons]; omega) rfl (fun ls' hl' => k H locs cells slots ls' hZ hS hcl hsl (wt_lv.st1 hn (by simp only [List.length_cons]; omega) hl'))
theorem wt_lstore_14 {pc : Nat} {a0 a1 a2 a3 a4 a5 a6 a7 a8 a9 a10 a11 a12 a13 : Option Value} {b b2 : Option Value} {r : List (Option Value)} {x : Int64} (hc : wt_Cx l G X y cc nL fr) (d : decode cc pc = .ok (.lstore 14, 2)) (hn : wt_nl (a0 :: a1 :: a2 :: a3 :: a4 :: a5 :: a6 :: a7 :: a8 :: a9 :: a10 :: a11 :: a12 :: a13 :: b :: b2 :: r) 14 = true) (k : wt_V G X (pc + 2) (a0 :: a1 :: a2 :: a3 :: a4 :: a5 :: a6 :: a7 :: a8 :: a9 :: a10 :: a11 :: a12 :: a13 :: some (.long x) :: none :: r) st Z kc ks) : wt_V G X pc (a0 :: a1 :: a2 :: a3 :: a4 :: a5 :: a6 :: a7 :: a8 :: a9 :: a10 :: a11 :: a12 :: a13 :: b :: b2 :: r) (.long x :: st) Z kc ks := by
  obtain ⟨p, l', e, Rm, s, m, args, below, meth, c, Q⟩ := X
  obtain ⟨-, hx, hb, hown, hts, -⟩ := hc
  exact fun H locs cells slots ls hZ hS hcl hsl hl => lv_lstore hx hb d hl.has (by simp only [List.length_cons]; omega) rfl (fun ls' hl' => k H locs cells slots ls' hZ hS hcl hsl (wt_lv.st2 hn (by simp only [List.length_cons]; omega) hl'))
theorem wt_iinc_14 {pc : Nat} {a0 a1 a2 a3 a4 a5 a6 a7 a8 a9 a10 a11 a12 a13 : Option Value} {r : List (Option Value)} {n : Int} {x v : Int32} (hc : wt_Cx l G X y cc nL fr) (d : decode cc pc = .ok (.iinc 14 n, 3)) (hv : x + Int32.ofInt n = v) (hn : wt_nl (a0 :: a1 :: a2 :: a3 :: a4 :: a5 :: a6 :: a7 :: a8 :: a9 :: a10 :: a11 :: a12 :: a13 :: some (.int x) :: r) 14 = true) (k : wt_V G X (pc + 3) (a0 :: a1 :: a2 :: a3 :: a4 :: a5 :: a6 :: a7 :: a8 :: a9 :: a10 :: a11 :: a12 :: a13 :: some (.int v) :: r) st Z kc ks) : wt_V G X pc (a0 :: a1 :: a2 :: a3 :: a4 :: a5 :: a6 :: a7 :: a8 :: a9 :: a10 :: a11 :: a12 :: a13 :: some (.int x) :: r) st Z kc ks := by
  obtain ⟨p, l', e, Rm, s, m, args, below, meth, c, Q⟩ := X
  obtain ⟨-, hx, hb, hown, hts, -⟩ := hc
  intro H locs cells slots ls hZ hS hcl hsl hl
  have h1 : lv_has ls (a0 :: a1 :: a2 :: a3 :: a4 :: a5 :: a6 :: a7 :: a8 :: a9 :: a10 :: a11 :: a12 :: a13 :: some (.int x) :: r).length (((14, Value.int x)) :: wt_as 0 (a0 :: a1 :: a2 :: a3 :: a4 :: a5 :: a6 :: a7 :: a8 :: a9 :: a10 :: a11 :: a12 :: a13 :: some (.int x) :: r)) := by
    refine ⟨hl.1, hl.2.1, fun q hq => ?_⟩
    rcases List.mem_cons.mp hq with rfl | hq
    · exact hl.2.2 14 _ (by rfl)
    · exact hl.has.2.2 q hq
  refine lv_iinc (k := 0) hx hb d h1 rfl hv (by simp only [List.length_cons]; omega) rfl (fun ls' hl' => k H locs cells slots ls' hZ hS hcl hsl (wt_lv.st1 hn (by simp only [List.length_cons]; omega) ?_))
  refine wt_has_sub hl' (fun q hq => ?_)
  rcases List.mem_cons.mp hq with rfl | hq
  · exact List.mem_cons_self
  · exact List.mem_cons_of_mem _ (List.mem_filter.mpr ⟨List.mem_cons_of_mem _ (List.mem_filter.mp hq).1, (List.mem_filter.mp hq).2⟩)
theorem wt_iload_15 {pc : Nat} {a0 a1 a2 a3 a4 a5 a6 a7 a8 a9 a10 a11 a12 a13 a14 : Option Value} {r : List (Option Value)} {x : Int32} (hc : wt_Cx l G X y cc nL fr) (d : decode cc pc = .ok (.iload 15, 2)) (k : wt_V G X (pc + 2) (a0 :: a1 :: a2 :: a3 :: a4 :: a5 :: a6 :: a7 :: a8 :: a9 :: a10 :: a11 :: a12 :: a13 :: a14 :: some (.int x) :: r) (.int x :: st) Z kc ks) : wt_V G X pc (a0 :: a1 :: a2 :: a3 :: a4 :: a5 :: a6 :: a7 :: a8 :: a9 :: a10 :: a11 :: a12 :: a13 :: a14 :: some (.int x) :: r) st Z kc ks := by
  obtain ⟨p, l', e, Rm, s, m, args, below, meth, c, Q⟩ := X
  obtain ⟨-, hx, hb, hown, hts, -⟩ := hc
  exact fun H locs cells slots ls hZ hS hcl hsl hl => lv_iload hx hb d (hl.2.2 15 (.int x) (by rfl)) (k H locs cells slots ls hZ hS hcl hsl hl)
theorem wt_lload_15 {pc : Nat} {a0 a1 a2 a3 a4 a5 a6 a7 a8 a9 a10 a11 a12 a13 a14 : Option Value} {r : List (Option Value)} {x : Int64} (hc : wt_Cx l G X y cc nL fr) (d : decode cc pc = .ok (.lload 15, 2)) (k : wt_V G X (pc + 2) (a0 :: a1 :: a2 :: a3 :: a4 :: a5 :: a6 :: a7 :: a8 :: a9 :: a10 :: a11 :: a12 :: a13 :: a14 :: some (.long x) :: r) (.long x :: st) Z kc ks) : wt_V G X pc (a0 :: a1 :: a2 :: a3 :: a4 :: a5 :: a6 :: a7 :: a8 :: a9 :: a10 :: a11 :: a12 :: a13 :: a14 :: some (.long x) :: r) st Z kc ks := by
  obtain ⟨p, l', e, Rm, s, m, args, below, meth, c, Q⟩ := X
  obtain ⟨-, hx, hb, hown, hts, -⟩ := hc
  exact fun H locs cells slots ls hZ hS hcl hsl hl => lv_lload hx hb d (hl.2.2 15 (.long x) (by rfl)) (k H locs cells slots ls hZ hS hcl hsl hl)
theorem wt_aload_15 {pc : Nat} {a0 a1 a2 a3 a4 a5 a6 a7 a8 a9 a10 a11 a12 a13 a14 : Option Value} {r : List (Option Value)} {x : Nat} (hc : wt_Cx l G X y cc nL fr) (d : decode cc pc = .ok (.aload 15, 2)) (k : wt_V G X (pc + 2) (a0 :: a1 :: a2 :: a3 :: a4 :: a5 :: a6 :: a7 :: a8 :: a9 :: a10 :: a11 :: a12 :: a13 :: a14 :: some (.ref x) :: r) (.ref x :: st) Z kc ks) : wt_V G X pc (a0 :: a1 :: a2 :: a3 :: a4 :: a5 :: a6 :: a7 :: a8 :: a9 :: a10 :: a11 :: a12 :: a13 :: a14 :: some (.ref x) :: r) st Z kc ks := by
  obtain ⟨p, l', e, Rm, s, m, args, below, meth, c, Q⟩ := X
  obtain ⟨-, hx, hb, hown, hts, -⟩ := hc
  exact fun H locs cells slots ls hZ hS hcl hsl hl => lv_aload hx hb d (hl.2.2 15 (.ref x) (by rfl)) (k H locs cells slots ls hZ hS hcl hsl hl)
theorem wt_aloadN_15 {pc : Nat} {a0 a1 a2 a3 a4 a5 a6 a7 a8 a9 a10 a11 a12 a13 a14 : Option Value} {r : List (Option Value)} (hc : wt_Cx l G X y cc nL fr) (d : decode cc pc = .ok (.aload 15, 2)) (k : wt_V G X (pc + 2) (a0 :: a1 :: a2 :: a3 :: a4 :: a5 :: a6 :: a7 :: a8 :: a9 :: a10 :: a11 :: a12 :: a13 :: a14 :: some .null :: r) (.null :: st) Z kc ks) : wt_V G X pc (a0 :: a1 :: a2 :: a3 :: a4 :: a5 :: a6 :: a7 :: a8 :: a9 :: a10 :: a11 :: a12 :: a13 :: a14 :: some .null :: r) st Z kc ks := by
  obtain ⟨p, l', e, Rm, s, m, args, below, meth, c, Q⟩ := X
  obtain ⟨-, hx, hb, hown, hts, -⟩ := hc
  exact fun H locs cells slots ls hZ hS hcl hsl hl => lv_aloadN hx hb d (hl.2.2 15 .null (by rfl)) (k H locs cells slots ls hZ hS hcl hsl hl)
theorem wt_istore_15 {pc : Nat} {a0 a1 a2 a3 a4 a5 a6 a7 a8 a9 a10 a11 a12 a13 a14 : Option Value} {b : Option Value} {r : List (Option Value)} {x : Int32} (hc : wt_Cx l G X y cc nL fr) (d : decode cc pc = .ok (.istore 15, 2)) (hn : wt_nl (a0 :: a1 :: a2 :: a3 :: a4 :: a5 :: a6 :: a7 :: a8 :: a9 :: a10 :: a11 :: a12 :: a13 :: a14 :: b :: r) 15 = true) (k : wt_V G X (pc + 2) (a0 :: a1 :: a2 :: a3 :: a4 :: a5 :: a6 :: a7 :: a8 :: a9 :: a10 :: a11 :: a12 :: a13 :: a14 :: some (.int x) :: r) st Z kc ks) : wt_V G X pc (a0 :: a1 :: a2 :: a3 :: a4 :: a5 :: a6 :: a7 :: a8 :: a9 :: a10 :: a11 :: a12 :: a13 :: a14 :: b :: r) (.int x :: st) Z kc ks := by
  obtain ⟨p, l', e, Rm, s, m, args, below, meth, c, Q⟩ := X
  obtain ⟨-, hx, hb, hown, hts, -⟩ := hc
  exact fun H locs cells slots ls hZ hS hcl hsl hl => lv_istore hx hb d hl.has (by simp only [List.length_cons]; omega) rfl (fun ls' hl' => k H locs cells slots ls' hZ hS hcl hsl (wt_lv.st1 hn (by simp only [List.length_cons]; omega) hl'))
theorem wt_astore_15 {pc : Nat} {a0 a1 a2 a3 a4 a5 a6 a7 a8 a9 a10 a11 a12 a13 a14 : Option Value} {b : Option Value} {r : List (Option Value)} {x : Nat} (hc : wt_Cx l G X y cc nL fr) (d : decode cc pc = .ok (.astore 15, 2)) (hn : wt_nl (a0 :: a1 :: a2 :: a3 :: a4 :: a5 :: a6 :: a7 :: a8 :: a9 :: a10 :: a11 :: a12 :: a13 :: a14 :: b :: r) 15 = true) (k : wt_V G X (pc + 2) (a0 :: a1 :: a2 :: a3 :: a4 :: a5 :: a6 :: a7 :: a8 :: a9 :: a10 :: a11 :: a12 :: a13 :: a14 :: some (.ref x) :: r) st Z kc ks) : wt_V G X pc (a0 :: a1 :: a2 :: a3 :: a4 :: a5 :: a6 :: a7 :: a8 :: a9 :: a10 :: a11 :: a12 :: a13 :: a14 :: b :: r) (.ref x :: st) Z kc ks := by
  obtain ⟨p, l', e, Rm, s, m, args, below, meth, c, Q⟩ := X
  obtain ⟨-, hx, hb, hown, hts, -⟩ := hc
  exact fun H locs cells slots ls hZ hS hcl hsl hl => lv_astore hx hb d hl.has (by simp only [List.length_cons]; omega) rfl (fun ls' hl' => k H locs cells slots ls' hZ hS hcl hsl (wt_lv.st1 hn (by simp only [List.length_cons]; omega) hl'))
theorem wt_astoreN_15 {pc : Nat} {a0 a1 a2 a3 a4 a5 a6 a7 a8 a9 a10 a11 a12 a13 a14 : Option Value} {b : Option Value} {r : List (Option Value)} (hc : wt_Cx l G X y cc nL fr) (d : decode cc pc = .ok (.astore 15, 2)) (hn : wt_nl (a0 :: a1 :: a2 :: a3 :: a4 :: a5 :: a6 :: a7 :: a8 :: a9 :: a10 :: a11 :: a12 :: a13 :: a14 :: b :: r) 15 = true) (k : wt_V G X (pc + 2) (a0 :: a1 :: a2 :: a3 :: a4 :: a5 :: a6 :: a7 :: a8 :: a9 :: a10 :: a11 :: a12 :: a13 :: a14 :: some (.null) :: r) st Z kc ks) : wt_V G X pc (a0 :: a1 :: a2 :: a3 :: a4 :: a5 :: a6 :: a7 :: a8 :: a9 :: a10 :: a11 :: a12 :: a13 :: a14 :: b :: r) (.null :: st) Z kc ks := by
  obtain ⟨p, l', e, Rm, s, m, args, below, meth, c, Q⟩ := X
  obtain ⟨-, hx, hb, hown, hts, -⟩ := hc
  exact fun H locs cells slots ls hZ hS hcl hsl hl => lv_astoreN hx hb d hl.has (by simp only [List.length_cons]; omega) rfl (fun ls' hl' => k H locs cells slots ls' hZ hS hcl hsl (wt_lv.st1 hn (by simp only [List.length_cons]; omega) hl'))
theorem wt_lstore_15 {pc : Nat} {a0 a1 a2 a3 a4 a5 a6 a7 a8 a9 a10 a11 a12 a13 a14 : Option Value} {b b2 : Option Value} {r : List (Option Value)} {x : Int64} (hc : wt_Cx l G X y cc nL fr) (d : decode cc pc = .ok (.lstore 15, 2)) (hn : wt_nl (a0 :: a1 :: a2 :: a3 :: a4 :: a5 :: a6 :: a7 :: a8 :: a9 :: a10 :: a11 :: a12 :: a13 :: a14 :: b :: b2 :: r) 15 = true) (k : wt_V G X (pc + 2) (a0 :: a1 :: a2 :: a3 :: a4 :: a5 :: a6 :: a7 :: a8 :: a9 :: a10 :: a11 :: a12 :: a13 :: a14 :: some (.long x) :: none :: r) st Z kc ks) : wt_V G X pc (a0 :: a1 :: a2 :: a3 :: a4 :: a5 :: a6 :: a7 :: a8 :: a9 :: a10 :: a11 :: a12 :: a13 :: a14 :: b :: b2 :: r) (.long x :: st) Z kc ks := by
  obtain ⟨p, l', e, Rm, s, m, args, below, meth, c, Q⟩ := X
  obtain ⟨-, hx, hb, hown, hts, -⟩ := hc
  exact fun H locs cells slots ls hZ hS hcl hsl hl => lv_lstore hx hb d hl.has (by simp only [List.length_cons]; omega) rfl (fun ls' hl' => k H locs cells slots ls' hZ hS hcl hsl (wt_lv.st2 hn (by simp only [List.length_cons]; omega) hl'))
theorem wt_iinc_15 {pc : Nat} {a0 a1 a2 a3 a4 a5 a6 a7 a8 a9 a10 a11 a12 a13 a14 : Option Value} {r : List (Option Value)} {n : Int} {x v : Int32} (hc : wt_Cx l G X y cc nL fr) (d : decode cc pc = .ok (.iinc 15 n, 3)) (hv : x + Int32.ofInt n = v) (hn : wt_nl (a0 :: a1 :: a2 :: a3 :: a4 :: a5 :: a6 :: a7 :: a8 :: a9 :: a10 :: a11 :: a12 :: a13 :: a14 :: some (.int x) :: r) 15 = true) (k : wt_V G X (pc + 3) (a0 :: a1 :: a2 :: a3 :: a4 :: a5 :: a6 :: a7 :: a8 :: a9 :: a10 :: a11 :: a12 :: a13 :: a14 :: some (.int v) :: r) st Z kc ks) : wt_V G X pc (a0 :: a1 :: a2 :: a3 :: a4 :: a5 :: a6 :: a7 :: a8 :: a9 :: a10 :: a11 :: a12 :: a13 :: a14 :: some (.int x) :: r) st Z kc ks := by
  obtain ⟨p, l', e, Rm, s, m, args, below, meth, c, Q⟩ := X
  obtain ⟨-, hx, hb, hown, hts, -⟩ := hc
  intro H locs cells slots ls hZ hS hcl hsl hl
  have h1 : lv_has ls (a0 :: a1 :: a2 :: a3 :: a4 :: a5 :: a6 :: a7 :: a8 :: a9 :: a10 :: a11 :: a12 :: a13 :: a14 :: some (.int x) :: r).length (((15, Value.int x)) :: wt_as 0 (a0 :: a1 :: a2 :: a3 :: a4 :: a5 :: a6 :: a7 :: a8 :: a9 :: a10 :: a11 :: a12 :: a13 :: a14 :: some (.int x) :: r)) := by
    refine ⟨hl.1, hl.2.1, fun q hq => ?_⟩
    rcases List.mem_cons.mp hq with rfl | hq
    · exact hl.2.2 15 _ (by rfl)
    · exact hl.has.2.2 q hq
  refine lv_iinc (k := 0) hx hb d h1 rfl hv (by simp only [List.length_cons]; omega) rfl (fun ls' hl' => k H locs cells slots ls' hZ hS hcl hsl (wt_lv.st1 hn (by simp only [List.length_cons]; omega) ?_))
  refine wt_has_sub hl' (fun q hq => ?_)
  rcases List.mem_cons.mp hq with rfl | hq
  · exact List.mem_cons_self
  · exact List.mem_cons_of_mem _ (List.mem_filter.mpr ⟨List.mem_cons_of_mem _ (List.mem_filter.mp hq).1, (List.mem_filter.mp hq).2⟩)
end WTI
