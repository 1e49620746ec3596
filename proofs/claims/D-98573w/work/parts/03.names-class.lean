/-! WingTrams$City -/
set_option maxRecDepth 100000
def RX2 : String := "WingTrams$City"
def TX2 : u_T := fun k => match k with
  | 0 => ("WingTrams$City", "grain", "[I", true)
  | 1 => ("WingTrams$City", "minutes", "[[I", true)
  | 2 => ("WingTrams$City", "owls", "Ljava/util/List;", true)
  | 3 => ("WingTrams$City", "riders", "Ljava/util/List;", true)
  | 4 => ("WingTrams$City", "hunts", "Ljava/util/List;", true)
  | 5 => ("WingTrams$City", "roofs", "I", false)
  | 6 => ("WingTrams$City", "flights", "I", false)
  | _ => ("WingTrams$City", "dawn", "I", false)
def tyX2 : Nat → FieldType := fun k => match k with
  | 0 => .array .int
  | 1 => .array (.array .int)
  | 2 => .object "java/util/List"
  | 3 => .object "java/util/List"
  | 4 => .object "java/util/List"
  | 5 => .int
  | 6 => .int
  | _ => .int
abbrev wsX20 : List Cond := u_ws RX2 TX2 8
theorem nmX2 : ∀ a, a < 8 → ∀ b, b < 8 → a ≠ b → (TX2 a).2.1 ≠ (TX2 b).2.1 := by decide +kernel
theorem tyX2_ok : ∀ k, k < 8 → parseFieldDescriptor (TX2 k).2.2.1 = some (tyX2 k) := by decide +kernel
abbrev cX2_init : ByteArray := prog_3_method_1_code
def yX2_init : MethodName := ⟨RX2, "<init>", "()V"⟩
def dkwX2_init_2 : List UInt8 := [187, 0, 20, 89, 183, 0, 22, 181, 0, 30, 42, 17, 1, 104, 181, 0, 33, 177]
abbrev dktX2_init_2 : List UInt8 := dkwX2_init_2 ++ []
def dkwX2_init_1 : List UInt8 := [42, 187, 0, 20, 89, 183, 0, 22, 181, 0, 23, 42, 187, 0, 20, 89, 183, 0, 22, 181, 0, 27, 42]
abbrev dktX2_init_1 : List UInt8 := dkwX2_init_1 ++ dktX2_init_2
def dkwX2_init_0 : List UInt8 := [42, 183, 0, 3, 42, 16, 10, 188, 10, 181, 0, 9, 42, 16, 10, 16, 10, 197, 0, 15, 2, 181, 0, 17]
abbrev dktX2_init_0 : List UInt8 := dkwX2_init_0 ++ dktX2_init_1
theorem dksX2_init_0 : cX2_init.data.toList.drop 0 = dktX2_init_0 := by decide +kernel
theorem dksX2_init_1 : cX2_init.data.toList.drop 24 = dktX2_init_1 := dk_seg dksX2_init_0 24 rfl rfl
theorem dksX2_init_2 : cX2_init.data.toList.drop 47 = dktX2_init_2 := dk_seg dksX2_init_1 23 rfl rfl
theorem dX2_init_0 : decode cX2_init 0 = .ok (.aload_n 0, 1) := dk_42 (dk_at dksX2_init_0 0 rfl rfl)
theorem dX2_init_1 : decode cX2_init 1 = .ok (.invokespecial 3, 3) := dk_183 0 3 (dk_at dksX2_init_0 1 rfl rfl)
theorem dX2_init_4 : decode cX2_init 4 = .ok (.aload_n 0, 1) := dk_42 (dk_at dksX2_init_0 4 rfl rfl)
theorem dX2_init_5 : decode cX2_init 5 = .ok (.bipush 10, 2) := dk_16 10 (dk_at dksX2_init_0 5 rfl rfl)
theorem dX2_init_7 : decode cX2_init 7 = .ok (.newarray .int, 2) := dk_188_10 (dk_at dksX2_init_0 7 rfl rfl)
theorem dX2_init_9 : decode cX2_init 9 = .ok (.putfield 9, 3) := dk_181 0 9 (dk_at dksX2_init_0 9 rfl rfl)
theorem dX2_init_12 : decode cX2_init 12 = .ok (.aload_n 0, 1) := dk_42 (dk_at dksX2_init_0 12 rfl rfl)
theorem dX2_init_13 : decode cX2_init 13 = .ok (.bipush 10, 2) := dk_16 10 (dk_at dksX2_init_0 13 rfl rfl)
theorem dX2_init_15 : decode cX2_init 15 = .ok (.bipush 10, 2) := dk_16 10 (dk_at dksX2_init_0 15 rfl rfl)
theorem dX2_init_17 : decode cX2_init 17 = .ok (.multianewarray 15 2, 4) := by decide +kernel
theorem dX2_init_21 : decode cX2_init 21 = .ok (.putfield 17, 3) := dk_181 0 17 (dk_at dksX2_init_0 21 rfl rfl)
theorem dX2_init_24 : decode cX2_init 24 = .ok (.aload_n 0, 1) := dk_42 (dk_at dksX2_init_1 0 rfl rfl)
theorem dX2_init_25 : decode cX2_init 25 = .ok (.new 20, 3) := dk_187 0 20 (dk_at dksX2_init_1 1 rfl rfl)
theorem dX2_init_28 : decode cX2_init 28 = .ok (.dup, 1) := dk_89 (dk_at dksX2_init_1 4 rfl rfl)
theorem dX2_init_29 : decode cX2_init 29 = .ok (.invokespecial 22, 3) := dk_183 0 22 (dk_at dksX2_init_1 5 rfl rfl)
theorem dX2_init_32 : decode cX2_init 32 = .ok (.putfield 23, 3) := dk_181 0 23 (dk_at dksX2_init_1 8 rfl rfl)
theorem dX2_init_35 : decode cX2_init 35 = .ok (.aload_n 0, 1) := dk_42 (dk_at dksX2_init_1 11 rfl rfl)
theorem dX2_init_36 : decode cX2_init 36 = .ok (.new 20, 3) := dk_187 0 20 (dk_at dksX2_init_1 12 rfl rfl)
theorem dX2_init_39 : decode cX2_init 39 = .ok (.dup, 1) := dk_89 (dk_at dksX2_init_1 15 rfl rfl)
theorem dX2_init_40 : decode cX2_init 40 = .ok (.invokespecial 22, 3) := dk_183 0 22 (dk_at dksX2_init_1 16 rfl rfl)
theorem dX2_init_43 : decode cX2_init 43 = .ok (.putfield 27, 3) := dk_181 0 27 (dk_at dksX2_init_1 19 rfl rfl)
theorem dX2_init_46 : decode cX2_init 46 = .ok (.aload_n 0, 1) := dk_42 (dk_at dksX2_init_1 22 rfl rfl)
theorem dX2_init_47 : decode cX2_init 47 = .ok (.new 20, 3) := dk_187 0 20 (dk_at dksX2_init_2 0 rfl rfl)
theorem dX2_init_50 : decode cX2_init 50 = .ok (.dup, 1) := dk_89 (dk_at dksX2_init_2 3 rfl rfl)
theorem dX2_init_51 : decode cX2_init 51 = .ok (.invokespecial 22, 3) := dk_183 0 22 (dk_at dksX2_init_2 4 rfl rfl)
theorem dX2_init_54 : decode cX2_init 54 = .ok (.putfield 30, 3) := dk_181 0 30 (dk_at dksX2_init_2 7 rfl rfl)
theorem dX2_init_57 : decode cX2_init 57 = .ok (.aload_n 0, 1) := dk_42 (dk_at dksX2_init_2 10 rfl rfl)
theorem dX2_init_58 : decode cX2_init 58 = .ok (.sipush 360, 3) := dk_17 1 104 (dk_at dksX2_init_2 11 rfl rfl)
theorem dX2_init_61 : decode cX2_init 61 = .ok (.putfield 33, 3) := dk_181 0 33 (dk_at dksX2_init_2 14 rfl rfl)
theorem dX2_init_64 : decode cX2_init 64 = .ok (.return_, 1) := dk_177 (dk_at dksX2_init_2 17 rfl rfl)
abbrev cX2_far : ByteArray := prog_3_method_2_code
def yX2_far : MethodName := ⟨RX2, "far", "()[[I"⟩
def dkwX2_far_6 : List UInt8 := [167, 255, 217, 132, 3, 1, 167, 255, 200, 132, 2, 1, 167, 255, 184, 43, 176]
abbrev dktX2_far_6 : List UInt8 := dkwX2_far_6 ++ []
def dkwX2_far_5 : List UInt8 := [29, 50, 21, 4, 46, 43, 29, 50, 28, 46, 43, 28, 50, 21, 4, 46, 96, 184, 0, 41, 79, 132, 4, 1]
abbrev dktX2_far_5 : List UInt8 := dkwX2_far_5 ++ dktX2_far_6
def dkwX2_far_4 : List UInt8 := [180, 0, 37, 162, 0, 54, 3, 54, 4, 21, 4, 42, 180, 0, 37, 162, 0, 36, 43, 29, 50, 21, 4, 43]
abbrev dktX2_far_4 : List UInt8 := dkwX2_far_4 ++ dktX2_far_5
def dkwX2_far_3 : List UInt8 := [167, 255, 207, 132, 2, 1, 167, 255, 191, 3, 61, 28, 42, 180, 0, 37, 162, 0, 70, 3, 62, 29, 42]
abbrev dktX2_far_3 : List UInt8 := dkwX2_far_3 ++ dktX2_far_4
def dkwX2_far_2 : List UInt8 := [50, 29, 46, 158, 0, 14, 42, 180, 0, 17, 28, 50, 29, 46, 167, 0, 5, 18, 40, 79, 132, 3, 1]
abbrev dktX2_far_2 : List UInt8 := dkwX2_far_2 ++ dktX2_far_3
def dkwX2_far_1 : List UInt8 := [180, 0, 37, 162, 0, 47, 43, 28, 50, 29, 28, 29, 160, 0, 7, 3, 167, 0, 27, 42, 180, 0, 17, 28]
abbrev dktX2_far_1 : List UInt8 := dkwX2_far_1 ++ dktX2_far_2
def dkwX2_far_0 : List UInt8 := [16, 10, 16, 10, 197, 0, 15, 2, 76, 3, 61, 28, 42, 180, 0, 37, 162, 0, 63, 3, 62, 29, 42]
abbrev dktX2_far_0 : List UInt8 := dkwX2_far_0 ++ dktX2_far_1
theorem dksX2_far_0 : cX2_far.data.toList.drop 0 = dktX2_far_0 := by decide +kernel
theorem dksX2_far_1 : cX2_far.data.toList.drop 23 = dktX2_far_1 := dk_seg dksX2_far_0 23 rfl rfl
theorem dksX2_far_2 : cX2_far.data.toList.drop 47 = dktX2_far_2 := dk_seg dksX2_far_1 24 rfl rfl
theorem dksX2_far_3 : cX2_far.data.toList.drop 70 = dktX2_far_3 := dk_seg dksX2_far_2 23 rfl rfl
theorem dksX2_far_4 : cX2_far.data.toList.drop 93 = dktX2_far_4 := dk_seg dksX2_far_3 23 rfl rfl
theorem dksX2_far_5 : cX2_far.data.toList.drop 117 = dktX2_far_5 := dk_seg dksX2_far_4 24 rfl rfl
theorem dksX2_far_6 : cX2_far.data.toList.drop 141 = dktX2_far_6 := dk_seg dksX2_far_5 24 rfl rfl
theorem dX2_far_0 : decode cX2_far 0 = .ok (.bipush 10, 2) := dk_16 10 (dk_at dksX2_far_0 0 rfl rfl)
theorem dX2_far_2 : decode cX2_far 2 = .ok (.bipush 10, 2) := dk_16 10 (dk_at dksX2_far_0 2 rfl rfl)
theorem dX2_far_4 : decode cX2_far 4 = .ok (.multianewarray 15 2, 4) := by decide +kernel
theorem dX2_far_8 : decode cX2_far 8 = .ok (.astore_n 1, 1) := dk_76 (dk_at dksX2_far_0 8 rfl rfl)
theorem dX2_far_9 : decode cX2_far 9 = .ok (.iconst 0, 1) := dk_3 (dk_at dksX2_far_0 9 rfl rfl)
theorem dX2_far_10 : decode cX2_far 10 = .ok (.istore_n 2, 1) := dk_61 (dk_at dksX2_far_0 10 rfl rfl)
theorem dX2_far_11 : decode cX2_far 11 = .ok (.iload_n 2, 1) := dk_28 (dk_at dksX2_far_0 11 rfl rfl)
theorem dX2_far_12 : decode cX2_far 12 = .ok (.aload_n 0, 1) := dk_42 (dk_at dksX2_far_0 12 rfl rfl)
theorem dX2_far_13 : decode cX2_far 13 = .ok (.getfield 37, 3) := dk_180 0 37 (dk_at dksX2_far_0 13 rfl rfl)
theorem dX2_far_16 : decode cX2_far 16 = .ok (.if_icmp .ge 63, 3) := dk_162 0 63 (dk_at dksX2_far_0 16 rfl rfl)
theorem dX2_far_19 : decode cX2_far 19 = .ok (.iconst 0, 1) := dk_3 (dk_at dksX2_far_0 19 rfl rfl)
theorem dX2_far_20 : decode cX2_far 20 = .ok (.istore_n 3, 1) := dk_62 (dk_at dksX2_far_0 20 rfl rfl)
theorem dX2_far_21 : decode cX2_far 21 = .ok (.iload_n 3, 1) := dk_29 (dk_at dksX2_far_0 21 rfl rfl)
theorem dX2_far_22 : decode cX2_far 22 = .ok (.aload_n 0, 1) := dk_42 (dk_at dksX2_far_0 22 rfl rfl)
theorem dX2_far_23 : decode cX2_far 23 = .ok (.getfield 37, 3) := dk_180 0 37 (dk_at dksX2_far_1 0 rfl rfl)
theorem dX2_far_26 : decode cX2_far 26 = .ok (.if_icmp .ge 47, 3) := dk_162 0 47 (dk_at dksX2_far_1 3 rfl rfl)
theorem dX2_far_29 : decode cX2_far 29 = .ok (.aload_n 1, 1) := dk_43 (dk_at dksX2_far_1 6 rfl rfl)
theorem dX2_far_30 : decode cX2_far 30 = .ok (.iload_n 2, 1) := dk_28 (dk_at dksX2_far_1 7 rfl rfl)
theorem dX2_far_31 : decode cX2_far 31 = .ok (.aaload, 1) := dk_50 (dk_at dksX2_far_1 8 rfl rfl)
theorem dX2_far_32 : decode cX2_far 32 = .ok (.iload_n 3, 1) := dk_29 (dk_at dksX2_far_1 9 rfl rfl)
theorem dX2_far_33 : decode cX2_far 33 = .ok (.iload_n 2, 1) := dk_28 (dk_at dksX2_far_1 10 rfl rfl)
theorem dX2_far_34 : decode cX2_far 34 = .ok (.iload_n 3, 1) := dk_29 (dk_at dksX2_far_1 11 rfl rfl)
theorem dX2_far_35 : decode cX2_far 35 = .ok (.if_icmp .ne 7, 3) := dk_160 0 7 (dk_at dksX2_far_1 12 rfl rfl)
theorem dX2_far_38 : decode cX2_far 38 = .ok (.iconst 0, 1) := dk_3 (dk_at dksX2_far_1 15 rfl rfl)
theorem dX2_far_39 : decode cX2_far 39 = .ok (.goto 27, 3) := dk_167 0 27 (dk_at dksX2_far_1 16 rfl rfl)
theorem dX2_far_42 : decode cX2_far 42 = .ok (.aload_n 0, 1) := dk_42 (dk_at dksX2_far_1 19 rfl rfl)
theorem dX2_far_43 : decode cX2_far 43 = .ok (.getfield 17, 3) := dk_180 0 17 (dk_at dksX2_far_1 20 rfl rfl)
theorem dX2_far_46 : decode cX2_far 46 = .ok (.iload_n 2, 1) := dk_28 (dk_at dksX2_far_1 23 rfl rfl)
theorem dX2_far_47 : decode cX2_far 47 = .ok (.aaload, 1) := dk_50 (dk_at dksX2_far_2 0 rfl rfl)
theorem dX2_far_48 : decode cX2_far 48 = .ok (.iload_n 3, 1) := dk_29 (dk_at dksX2_far_2 1 rfl rfl)
theorem dX2_far_49 : decode cX2_far 49 = .ok (.iaload, 1) := dk_46 (dk_at dksX2_far_2 2 rfl rfl)
theorem dX2_far_50 : decode cX2_far 50 = .ok (.ifCond .le 14, 3) := dk_158 0 14 (dk_at dksX2_far_2 3 rfl rfl)
theorem dX2_far_53 : decode cX2_far 53 = .ok (.aload_n 0, 1) := dk_42 (dk_at dksX2_far_2 6 rfl rfl)
theorem dX2_far_54 : decode cX2_far 54 = .ok (.getfield 17, 3) := dk_180 0 17 (dk_at dksX2_far_2 7 rfl rfl)
theorem dX2_far_57 : decode cX2_far 57 = .ok (.iload_n 2, 1) := dk_28 (dk_at dksX2_far_2 10 rfl rfl)
theorem dX2_far_58 : decode cX2_far 58 = .ok (.aaload, 1) := dk_50 (dk_at dksX2_far_2 11 rfl rfl)
theorem dX2_far_59 : decode cX2_far 59 = .ok (.iload_n 3, 1) := dk_29 (dk_at dksX2_far_2 12 rfl rfl)
theorem dX2_far_60 : decode cX2_far 60 = .ok (.iaload, 1) := dk_46 (dk_at dksX2_far_2 13 rfl rfl)
theorem dX2_far_61 : decode cX2_far 61 = .ok (.goto 5, 3) := dk_167 0 5 (dk_at dksX2_far_2 14 rfl rfl)
theorem dX2_far_64 : decode cX2_far 64 = .ok (.ldc 40, 2) := dk_18 40 (dk_at dksX2_far_2 17 rfl rfl)
theorem dX2_far_66 : decode cX2_far 66 = .ok (.iastore, 1) := dk_79 (dk_at dksX2_far_2 19 rfl rfl)
theorem dX2_far_67 : decode cX2_far 67 = .ok (.iinc 3 1, 3) := dk_132 3 1 (dk_at dksX2_far_2 20 rfl rfl)
theorem dX2_far_70 : decode cX2_far 70 = .ok (.goto (-49), 3) := dk_167 255 207 (dk_at dksX2_far_3 0 rfl rfl)
theorem dX2_far_73 : decode cX2_far 73 = .ok (.iinc 2 1, 3) := dk_132 2 1 (dk_at dksX2_far_3 3 rfl rfl)
theorem dX2_far_76 : decode cX2_far 76 = .ok (.goto (-65), 3) := dk_167 255 191 (dk_at dksX2_far_3 6 rfl rfl)
theorem dX2_far_79 : decode cX2_far 79 = .ok (.iconst 0, 1) := dk_3 (dk_at dksX2_far_3 9 rfl rfl)
theorem dX2_far_80 : decode cX2_far 80 = .ok (.istore_n 2, 1) := dk_61 (dk_at dksX2_far_3 10 rfl rfl)
theorem dX2_far_81 : decode cX2_far 81 = .ok (.iload_n 2, 1) := dk_28 (dk_at dksX2_far_3 11 rfl rfl)
theorem dX2_far_82 : decode cX2_far 82 = .ok (.aload_n 0, 1) := dk_42 (dk_at dksX2_far_3 12 rfl rfl)
theorem dX2_far_83 : decode cX2_far 83 = .ok (.getfield 37, 3) := dk_180 0 37 (dk_at dksX2_far_3 13 rfl rfl)
theorem dX2_far_86 : decode cX2_far 86 = .ok (.if_icmp .ge 70, 3) := dk_162 0 70 (dk_at dksX2_far_3 16 rfl rfl)
theorem dX2_far_89 : decode cX2_far 89 = .ok (.iconst 0, 1) := dk_3 (dk_at dksX2_far_3 19 rfl rfl)
theorem dX2_far_90 : decode cX2_far 90 = .ok (.istore_n 3, 1) := dk_62 (dk_at dksX2_far_3 20 rfl rfl)
theorem dX2_far_91 : decode cX2_far 91 = .ok (.iload_n 3, 1) := dk_29 (dk_at dksX2_far_3 21 rfl rfl)
theorem dX2_far_92 : decode cX2_far 92 = .ok (.aload_n 0, 1) := dk_42 (dk_at dksX2_far_3 22 rfl rfl)
theorem dX2_far_93 : decode cX2_far 93 = .ok (.getfield 37, 3) := dk_180 0 37 (dk_at dksX2_far_4 0 rfl rfl)
theorem dX2_far_96 : decode cX2_far 96 = .ok (.if_icmp .ge 54, 3) := dk_162 0 54 (dk_at dksX2_far_4 3 rfl rfl)
theorem dX2_far_99 : decode cX2_far 99 = .ok (.iconst 0, 1) := dk_3 (dk_at dksX2_far_4 6 rfl rfl)
theorem dX2_far_100 : decode cX2_far 100 = .ok (.istore 4, 2) := dk_54 4 (dk_at dksX2_far_4 7 rfl rfl)
theorem dX2_far_102 : decode cX2_far 102 = .ok (.iload 4, 2) := dk_21 4 (dk_at dksX2_far_4 9 rfl rfl)
theorem dX2_far_104 : decode cX2_far 104 = .ok (.aload_n 0, 1) := dk_42 (dk_at dksX2_far_4 11 rfl rfl)
theorem dX2_far_105 : decode cX2_far 105 = .ok (.getfield 37, 3) := dk_180 0 37 (dk_at dksX2_far_4 12 rfl rfl)
theorem dX2_far_108 : decode cX2_far 108 = .ok (.if_icmp .ge 36, 3) := dk_162 0 36 (dk_at dksX2_far_4 15 rfl rfl)
theorem dX2_far_111 : decode cX2_far 111 = .ok (.aload_n 1, 1) := dk_43 (dk_at dksX2_far_4 18 rfl rfl)
theorem dX2_far_112 : decode cX2_far 112 = .ok (.iload_n 3, 1) := dk_29 (dk_at dksX2_far_4 19 rfl rfl)
theorem dX2_far_113 : decode cX2_far 113 = .ok (.aaload, 1) := dk_50 (dk_at dksX2_far_4 20 rfl rfl)
theorem dX2_far_114 : decode cX2_far 114 = .ok (.iload 4, 2) := dk_21 4 (dk_at dksX2_far_4 21 rfl rfl)
theorem dX2_far_116 : decode cX2_far 116 = .ok (.aload_n 1, 1) := dk_43 (dk_at dksX2_far_4 23 rfl rfl)
theorem dX2_far_117 : decode cX2_far 117 = .ok (.iload_n 3, 1) := dk_29 (dk_at dksX2_far_5 0 rfl rfl)
theorem dX2_far_118 : decode cX2_far 118 = .ok (.aaload, 1) := dk_50 (dk_at dksX2_far_5 1 rfl rfl)
theorem dX2_far_119 : decode cX2_far 119 = .ok (.iload 4, 2) := dk_21 4 (dk_at dksX2_far_5 2 rfl rfl)
theorem dX2_far_121 : decode cX2_far 121 = .ok (.iaload, 1) := dk_46 (dk_at dksX2_far_5 4 rfl rfl)
theorem dX2_far_122 : decode cX2_far 122 = .ok (.aload_n 1, 1) := dk_43 (dk_at dksX2_far_5 5 rfl rfl)
theorem dX2_far_123 : decode cX2_far 123 = .ok (.iload_n 3, 1) := dk_29 (dk_at dksX2_far_5 6 rfl rfl)
theorem dX2_far_124 : decode cX2_far 124 = .ok (.aaload, 1) := dk_50 (dk_at dksX2_far_5 7 rfl rfl)
theorem dX2_far_125 : decode cX2_far 125 = .ok (.iload_n 2, 1) := dk_28 (dk_at dksX2_far_5 8 rfl rfl)
theorem dX2_far_126 : decode cX2_far 126 = .ok (.iaload, 1) := dk_46 (dk_at dksX2_far_5 9 rfl rfl)
theorem dX2_far_127 : decode cX2_far 127 = .ok (.aload_n 1, 1) := dk_43 (dk_at dksX2_far_5 10 rfl rfl)
theorem dX2_far_128 : decode cX2_far 128 = .ok (.iload_n 2, 1) := dk_28 (dk_at dksX2_far_5 11 rfl rfl)
theorem dX2_far_129 : decode cX2_far 129 = .ok (.aaload, 1) := dk_50 (dk_at dksX2_far_5 12 rfl rfl)
theorem dX2_far_130 : decode cX2_far 130 = .ok (.iload 4, 2) := dk_21 4 (dk_at dksX2_far_5 13 rfl rfl)
theorem dX2_far_132 : decode cX2_far 132 = .ok (.iaload, 1) := dk_46 (dk_at dksX2_far_5 15 rfl rfl)
theorem dX2_far_133 : decode cX2_far 133 = .ok (.iadd, 1) := dk_96 (dk_at dksX2_far_5 16 rfl rfl)
theorem dX2_far_134 : decode cX2_far 134 = .ok (.invokestatic 41, 3) := dk_184 0 41 (dk_at dksX2_far_5 17 rfl rfl)
theorem dX2_far_137 : decode cX2_far 137 = .ok (.iastore, 1) := dk_79 (dk_at dksX2_far_5 20 rfl rfl)
theorem dX2_far_138 : decode cX2_far 138 = .ok (.iinc 4 1, 3) := dk_132 4 1 (dk_at dksX2_far_5 21 rfl rfl)
theorem dX2_far_141 : decode cX2_far 141 = .ok (.goto (-39), 3) := dk_167 255 217 (dk_at dksX2_far_6 0 rfl rfl)
theorem dX2_far_144 : decode cX2_far 144 = .ok (.iinc 3 1, 3) := dk_132 3 1 (dk_at dksX2_far_6 3 rfl rfl)
theorem dX2_far_147 : decode cX2_far 147 = .ok (.goto (-56), 3) := dk_167 255 200 (dk_at dksX2_far_6 6 rfl rfl)
theorem dX2_far_150 : decode cX2_far 150 = .ok (.iinc 2 1, 3) := dk_132 2 1 (dk_at dksX2_far_6 9 rfl rfl)
theorem dX2_far_153 : decode cX2_far 153 = .ok (.goto (-72), 3) := dk_167 255 184 (dk_at dksX2_far_6 12 rfl rfl)
theorem dX2_far_156 : decode cX2_far 156 = .ok (.aload_n 1, 1) := dk_43 (dk_at dksX2_far_6 15 rfl rfl)
theorem dX2_far_157 : decode cX2_far 157 = .ok (.areturn, 1) := dk_176 (dk_at dksX2_far_6 16 rfl rfl)
theorem q112 : (Jvm.Cond.initialized "WingTrams$City") ∈ lw_all := lw_g (lw_at lw_m1 2 rfl) rfl
theorem q155 : (Jvm.Cond.instantiable "WingTrams$City" (8 : Nat)) ∈ lw_all := lw_g (lw_at lw_m1 45 rfl) rfl
theorem q157 : (Jvm.Cond.instanceMethod ({ cls := "WingTrams$City", name := "<init>", desc := "()V" } : Jvm.MethodName)) ∈ lw_all := lw_g (lw_at lw_m1 47 rfl) rfl
theorem q158 : (Jvm.Cond.code ({ cls := "WingTrams$City", name := "<init>", desc := "()V" } : Jvm.MethodName) prog_3_method_1_code (1 : Nat) (Option.none : Option Jvm.ClassFile.FieldType)) ∈ lw_all := lw_g (lw_at lw_m1 48 rfl) rfl
theorem q159 : (Jvm.Cond.methodLink "WingTrams$City" (3 : Nat) ({ cls := "java/lang/Object", name := "<init>", desc := "()V" } : Jvm.MethodName)) ∈ lw_all := lw_g (lw_at lw_m1 49 rfl) rfl
theorem q160 : (Jvm.Cond.classLink "WingTrams$City" (15 : Nat) "[[I") ∈ lw_all := lw_g (lw_at lw_m1 50 rfl) rfl
theorem q162 : (Jvm.Cond.classLink "WingTrams$City" (20 : Nat) "java/util/ArrayList") ∈ lw_all := lw_g (lw_at lw_m1 52 rfl) rfl
theorem q164 : (Jvm.Cond.methodLink "WingTrams$City" (22 : Nat) ({ cls := "java/util/ArrayList", name := "<init>", desc := "()V" } : Jvm.MethodName)) ∈ lw_all := lw_g (lw_at lw_m1 54 rfl) rfl
theorem q189 : (Jvm.Cond.fieldLink "WingTrams$City" (9 : Nat) "WingTrams$City" "grain" "[I") ∈ lw_all := lw_g (lw_at lw_m1 79 rfl) rfl
theorem q193 : (Jvm.Cond.fieldLink "WingTrams$City" (17 : Nat) "WingTrams$City" "minutes" "[[I") ∈ lw_all := lw_g (lw_at lw_m1 83 rfl) rfl
theorem q197 : (Jvm.Cond.fieldLink "WingTrams$City" (23 : Nat) "WingTrams$City" "owls" "Ljava/util/List;") ∈ lw_all := lw_g (lw_at lw_m1 87 rfl) rfl
theorem q202 : (Jvm.Cond.fieldLink "WingTrams$City" (27 : Nat) "WingTrams$City" "riders" "Ljava/util/List;") ∈ lw_all := lw_g (lw_at lw_m1 92 rfl) rfl
theorem q206 : (Jvm.Cond.fieldLink "WingTrams$City" (30 : Nat) "WingTrams$City" "hunts" "Ljava/util/List;") ∈ lw_all := lw_g (lw_at lw_m1 96 rfl) rfl
theorem q210 : (Jvm.Cond.fieldLink "WingTrams$City" (37 : Nat) "WingTrams$City" "roofs" "I") ∈ lw_all := lw_g (lw_at lw_m1 100 rfl) rfl
theorem q216 : (Jvm.Cond.fieldLink "WingTrams$City" (33 : Nat) "WingTrams$City" "dawn" "I") ∈ lw_all := lw_g (lw_at lw_m1 106 rfl) rfl
theorem q221 : (Jvm.Cond.laysFinal "WingTrams$City" "WingTrams$City" "grain" "[I") ∈ lw_all := lw_g (lw_at lw_m1 111 rfl) rfl
theorem q222 : (Jvm.Cond.soleField "WingTrams$City" "grain") ∈ lw_all := lw_g (lw_at lw_m1 112 rfl) rfl
theorem q223 : (Jvm.Cond.laysFinal "WingTrams$City" "WingTrams$City" "minutes" "[[I") ∈ lw_all := lw_g (lw_at lw_m1 113 rfl) rfl
theorem q224 : (Jvm.Cond.soleField "WingTrams$City" "minutes") ∈ lw_all := lw_g (lw_at lw_m1 114 rfl) rfl
theorem q225 : (Jvm.Cond.laysFinal "WingTrams$City" "WingTrams$City" "owls" "Ljava/util/List;") ∈ lw_all := lw_g (lw_at lw_m1 115 rfl) rfl
theorem q226 : (Jvm.Cond.soleField "WingTrams$City" "owls") ∈ lw_all := lw_g (lw_at lw_m1 116 rfl) rfl
theorem q227 : (Jvm.Cond.laysFinal "WingTrams$City" "WingTrams$City" "riders" "Ljava/util/List;") ∈ lw_all := lw_g (lw_at lw_m1 117 rfl) rfl
theorem q228 : (Jvm.Cond.soleField "WingTrams$City" "riders") ∈ lw_all := lw_g (lw_at lw_m1 118 rfl) rfl
theorem q229 : (Jvm.Cond.laysFinal "WingTrams$City" "WingTrams$City" "hunts" "Ljava/util/List;") ∈ lw_all := lw_g (lw_at lw_m1 119 rfl) rfl
theorem q230 : (Jvm.Cond.soleField "WingTrams$City" "hunts") ∈ lw_all := lw_g (lw_at lw_m1 120 rfl) rfl
theorem q231 : (Jvm.Cond.lays "WingTrams$City" "WingTrams$City" "roofs" "I") ∈ lw_all := lw_g (lw_at lw_m1 121 rfl) rfl
theorem q232 : (Jvm.Cond.soleField "WingTrams$City" "roofs") ∈ lw_all := lw_g (lw_at lw_m1 122 rfl) rfl
theorem q233 : (Jvm.Cond.lays "WingTrams$City" "WingTrams$City" "flights" "I") ∈ lw_all := lw_g (lw_at lw_m1 123 rfl) rfl
theorem q234 : (Jvm.Cond.soleField "WingTrams$City" "flights") ∈ lw_all := lw_g (lw_at lw_m1 124 rfl) rfl
theorem q235 : (Jvm.Cond.lays "WingTrams$City" "WingTrams$City" "dawn" "I") ∈ lw_all := lw_g (lw_at lw_m1 125 rfl) rfl
theorem q236 : (Jvm.Cond.soleField "WingTrams$City" "dawn") ∈ lw_all := lw_g (lw_at lw_m1 126 rfl) rfl
theorem q237 : (Jvm.Cond.superclass "WingTrams$City" "java/lang/Object") ∈ lw_all := lw_g (lw_at lw_m1 127 rfl) rfl
theorem q369 : (Jvm.Cond.selects "WingTrams$City" ({ cls := "java/lang/Object", name := "getClass", desc := "()Ljava/lang/Class;" } : Jvm.MethodName) ({ cls := "java/lang/Object", name := "getClass", desc := "()Ljava/lang/Class;" } : Jvm.MethodName)) ∈ lw_all := lw_g (lw_at lw_m2 19 rfl) rfl
theorem q1481 : (Jvm.Cond.instanceMethod ({ cls := "WingTrams$City", name := "far", desc := "()[[I" } : Jvm.MethodName)) ∈ lw_all := lw_g (lw_at lw_m6 171 rfl) rfl
theorem q1482 : (Jvm.Cond.selects "WingTrams$City" ({ cls := "WingTrams$City", name := "far", desc := "()[[I" } : Jvm.MethodName) ({ cls := "WingTrams$City", name := "far", desc := "()[[I" } : Jvm.MethodName)) ∈ lw_all := lw_g (lw_at lw_m6 172 rfl) rfl
theorem q1483 : (Jvm.Cond.code ({ cls := "WingTrams$City", name := "far", desc := "()[[I" } : Jvm.MethodName) prog_3_method_2_code (5 : Nat) (Option.some (Jvm.ClassFile.FieldType.array (Jvm.ClassFile.FieldType.array Jvm.ClassFile.FieldType.int)))) ∈ lw_all := lw_g (lw_at lw_m6 173 rfl) rfl
theorem q1484 : (Jvm.Cond.constant "WingTrams$City" (40 : Nat) (1000000 : Int32)) ∈ lw_all := lw_g (lw_at lw_m6 174 rfl) rfl
theorem q1485 : (Jvm.Cond.methodLink "WingTrams$City" (41 : Nat) ({ cls := "java/lang/Math", name := "min", desc := "(II)I" } : Jvm.MethodName)) ∈ lw_all := lw_g (lw_at lw_m6 175 rfl) rfl
theorem q2275 : (Jvm.Cond.castable "WingTrams$City" "java/lang/Object") ∈ lw_tbl := lw_at lw_m10 5 rfl
theorem in_X2 : ∀ w ∈ wsX20, w ∈ lw_all := lw_in wsX20 [221, 223, 225, 227, 229, 231, 233, 235] (by decide +kernel) (by decide +kernel)
/-! WingTrams$Wrong -/
set_option maxRecDepth 100000
def RX5 : String := "WingTrams$Wrong"
def TX5 : u_T := fun k => match k with
  | 0 => ("java/lang/Throwable", "cause", "Ljava/lang/Throwable;", false)
  | 1 => ("java/lang/Throwable", "stackTrace", "[Ljava/lang/StackTraceElement;", false)
  | 2 => ("java/lang/Throwable", "suppressedExceptions", "Ljava/util/List;", false)
  | 3 => ("java/lang/Throwable", "detailMessage", "Ljava/lang/String;", false)
  | 4 => ("java/lang/Throwable", "backtrace", "Ljava/lang/Object;", false)
  | 5 => ("java/lang/Throwable", "depth", "I", false)
  | _ => ("WingTrams$Wrong", "kind", "I", true)
def tyX5 : Nat → FieldType := fun k => match k with
  | 0 => .object "java/lang/Throwable"
  | 1 => .array (.object "java/lang/StackTraceElement")
  | 2 => .object "java/util/List"
  | 3 => .object "java/lang/String"
  | 4 => .object "java/lang/Object"
  | 5 => .int
  | _ => .int
abbrev wsX50 : List Cond := u_ws RX5 TX5 7
theorem nmX5 : ∀ a, a < 7 → ∀ b, b < 7 → a ≠ b → (TX5 a).2.1 ≠ (TX5 b).2.1 := by decide +kernel
theorem tyX5_ok : ∀ k, k < 7 → parseFieldDescriptor (TX5 k).2.2.1 = some (tyX5 k) := by decide +kernel
abbrev cX5_init : ByteArray := prog_12_method_1_code
def yX5_init : MethodName := ⟨RX5, "<init>", "(I)V"⟩
def dkwX5_init_0 : List UInt8 := [42, 1, 1, 3, 3, 183, 0, 1, 42, 27, 181, 0, 7, 177]
abbrev dktX5_init_0 : List UInt8 := dkwX5_init_0 ++ []
theorem dksX5_init_0 : cX5_init.data.toList.drop 0 = dktX5_init_0 := by decide +kernel
theorem dX5_init_0 : decode cX5_init 0 = .ok (.aload_n 0, 1) := dk_42 (dk_at dksX5_init_0 0 rfl rfl)
theorem dX5_init_1 : decode cX5_init 1 = .ok (.aconst_null, 1) := dk_1 (dk_at dksX5_init_0 1 rfl rfl)
theorem dX5_init_2 : decode cX5_init 2 = .ok (.aconst_null, 1) := dk_1 (dk_at dksX5_init_0 2 rfl rfl)
theorem dX5_init_3 : decode cX5_init 3 = .ok (.iconst 0, 1) := dk_3 (dk_at dksX5_init_0 3 rfl rfl)
theorem dX5_init_4 : decode cX5_init 4 = .ok (.iconst 0, 1) := dk_3 (dk_at dksX5_init_0 4 rfl rfl)
theorem dX5_init_5 : decode cX5_init 5 = .ok (.invokespecial 1, 3) := dk_183 0 1 (dk_at dksX5_init_0 5 rfl rfl)
theorem dX5_init_8 : decode cX5_init 8 = .ok (.aload_n 0, 1) := dk_42 (dk_at dksX5_init_0 8 rfl rfl)
theorem dX5_init_9 : decode cX5_init 9 = .ok (.iload_n 1, 1) := dk_27 (dk_at dksX5_init_0 9 rfl rfl)
theorem dX5_init_10 : decode cX5_init 10 = .ok (.putfield 7, 3) := dk_181 0 7 (dk_at dksX5_init_0 10 rfl rfl)
theorem dX5_init_13 : decode cX5_init 13 = .ok (.return_, 1) := dk_177 (dk_at dksX5_init_0 13 rfl rfl)
theorem q128 : (Jvm.Cond.initialized "WingTrams$Wrong") ∈ lw_all := lw_g (lw_at lw_m1 18 rfl) rfl
theorem q377 : (Jvm.Cond.selects "WingTrams$Wrong" ({ cls := "java/lang/Object", name := "getClass", desc := "()Ljava/lang/Class;" } : Jvm.MethodName) ({ cls := "java/lang/Object", name := "getClass", desc := "()Ljava/lang/Class;" } : Jvm.MethodName)) ∈ lw_all := lw_g (lw_at lw_m2 27 rfl) rfl
theorem q796 : (Jvm.Cond.selects "WingTrams$Wrong" ({ cls := "java/lang/Throwable", name := "fillInStackTrace", desc := "()Ljava/lang/Throwable;" } : Jvm.MethodName) ({ cls := "java/lang/Throwable", name := "fillInStackTrace", desc := "()Ljava/lang/Throwable;" } : Jvm.MethodName)) ∈ lw_all := lw_g (lw_at lw_m3 206 rfl) rfl
theorem q995 : (Jvm.Cond.instantiable "WingTrams$Wrong" (7 : Nat)) ∈ lw_all := lw_g (lw_at lw_m4 165 rfl) rfl
theorem q996 : (Jvm.Cond.castable "WingTrams$Wrong" "WingTrams$Wrong") ∈ lw_tbl := lw_at lw_m4 166 rfl
theorem q997 : (Jvm.Cond.selects "WingTrams$Wrong" ({ cls := "java/lang/Throwable", name := "fillInStackTrace", desc := "(I)Ljava/lang/Throwable;" } : Jvm.MethodName) ({ cls := "java/lang/Throwable", name := "fillInStackTrace", desc := "(I)Ljava/lang/Throwable;" } : Jvm.MethodName)) ∈ lw_all := lw_g (lw_at lw_m4 167 rfl) rfl
theorem q998 : (Jvm.Cond.lays "WingTrams$Wrong" "java/lang/Throwable" "cause" "Ljava/lang/Throwable;") ∈ lw_all := lw_g (lw_at lw_m4 168 rfl) rfl
theorem q999 : (Jvm.Cond.lays "WingTrams$Wrong" "java/lang/Throwable" "stackTrace" "[Ljava/lang/StackTraceElement;") ∈ lw_all := lw_g (lw_at lw_m4 169 rfl) rfl
theorem q1000 : (Jvm.Cond.lays "WingTrams$Wrong" "java/lang/Throwable" "suppressedExceptions" "Ljava/util/List;") ∈ lw_all := lw_g (lw_at lw_m4 170 rfl) rfl
theorem q1001 : (Jvm.Cond.lays "WingTrams$Wrong" "java/lang/Throwable" "detailMessage" "Ljava/lang/String;") ∈ lw_all := lw_g (lw_at lw_m4 171 rfl) rfl
theorem q1002 : (Jvm.Cond.lays "WingTrams$Wrong" "java/lang/Throwable" "backtrace" "Ljava/lang/Object;") ∈ lw_all := lw_g (lw_at lw_m4 172 rfl) rfl
theorem q1004 : (Jvm.Cond.instanceMethod ({ cls := "WingTrams$Wrong", name := "<init>", desc := "(I)V" } : Jvm.MethodName)) ∈ lw_all := lw_g (lw_at lw_m4 174 rfl) rfl
theorem q1005 : (Jvm.Cond.code ({ cls := "WingTrams$Wrong", name := "<init>", desc := "(I)V" } : Jvm.MethodName) prog_12_method_1_code (2 : Nat) (Option.none : Option Jvm.ClassFile.FieldType)) ∈ lw_all := lw_g (lw_at lw_m4 175 rfl) rfl
theorem q1006 : (Jvm.Cond.methodLink "WingTrams$Wrong" (1 : Nat) ({ cls := "java/lang/Exception", name := "<init>", desc := "(Ljava/lang/String;Ljava/lang/Throwable;ZZ)V" } : Jvm.MethodName)) ∈ lw_all := lw_g (lw_at lw_m4 176 rfl) rfl
theorem q1012 : (Jvm.Cond.fieldLink "WingTrams$Wrong" (7 : Nat) "WingTrams$Wrong" "kind" "I") ∈ lw_all := lw_g (lw_at lw_m4 182 rfl) rfl
theorem q1014 : (Jvm.Cond.laysFinal "WingTrams$Wrong" "WingTrams$Wrong" "kind" "I") ∈ lw_all := lw_g (lw_at lw_m4 184 rfl) rfl
theorem q1015 : (Jvm.Cond.soleField "WingTrams$Wrong" "kind") ∈ lw_all := lw_g (lw_at lw_m4 185 rfl) rfl
theorem q1016 : (Jvm.Cond.lays "WingTrams$Wrong" "java/lang/Throwable" "depth" "I") ∈ lw_all := lw_g (lw_at lw_m4 186 rfl) rfl
theorem q1017 : (Jvm.Cond.superclass "WingTrams$Wrong" "java/lang/Exception") ∈ lw_all := lw_g (lw_at lw_m4 187 rfl) rfl
theorem q2280 : (Jvm.Cond.castable "WingTrams$Wrong" "java/lang/Object") ∈ lw_tbl := lw_at lw_m10 10 rfl
theorem in_X5 : ∀ w ∈ wsX50, w ∈ lw_all := lw_in wsX50 [998, 999, 1000, 1001, 1002, 1016, 1014] (by decide +kernel) (by decide +kernel)
/-! WingTrams$Owl -/
set_option maxRecDepth 100000
def RX6 : String := "WingTrams$Owl"
def TX6 : u_T := fun k => match k with
  | 0 => ("WingTrams$Owl", "kind", "I", true)
  | 1 => ("WingTrams$Owl", "minute", "I", false)
  | _ => ("WingTrams$Owl", "way", "Ljava/util/List;", true)
def tyX6 : Nat → FieldType := fun k => match k with
  | 0 => .int
  | 1 => .int
  | _ => .object "java/util/List"
abbrev wsX60 : List Cond := u_ws RX6 TX6 3
theorem nmX6 : ∀ a, a < 3 → ∀ b, b < 3 → a ≠ b → (TX6 a).2.1 ≠ (TX6 b).2.1 := by decide +kernel
theorem tyX6_ok : ∀ k, k < 3 → parseFieldDescriptor (TX6 k).2.2.1 = some (tyX6 k) := by decide +kernel
abbrev cX6_size : ByteArray := prog_8_method_2_code
def yX6_size : MethodName := ⟨RX6, "size", "()I"⟩
def dkwX6_size_0 : List UInt8 := [42, 180, 0, 10, 185, 0, 23, 1, 0, 172]
abbrev dktX6_size_0 : List UInt8 := dkwX6_size_0 ++ []
theorem dksX6_size_0 : cX6_size.data.toList.drop 0 = dktX6_size_0 := by decide +kernel
theorem dX6_size_0 : decode cX6_size 0 = .ok (.aload_n 0, 1) := dk_42 (dk_at dksX6_size_0 0 rfl rfl)
theorem dX6_size_1 : decode cX6_size 1 = .ok (.getfield 10, 3) := dk_180 0 10 (dk_at dksX6_size_0 1 rfl rfl)
theorem dX6_size_4 : decode cX6_size 4 = .ok (.invokeinterface 23 1, 5) := by decide +kernel
theorem dX6_size_9 : decode cX6_size 9 = .ok (.ireturn, 1) := dk_172 (dk_at dksX6_size_0 9 rfl rfl)
abbrev cX6_at : ByteArray := prog_8_method_3_code
def yX6_at : MethodName := ⟨RX6, "at", "(I)I"⟩
def dkwX6_at_0 : List UInt8 := [42, 180, 0, 10, 27, 185, 0, 29, 2, 0, 192, 0, 33, 182, 0, 35, 172]
abbrev dktX6_at_0 : List UInt8 := dkwX6_at_0 ++ []
theorem dksX6_at_0 : cX6_at.data.toList.drop 0 = dktX6_at_0 := by decide +kernel
theorem dX6_at_0 : decode cX6_at 0 = .ok (.aload_n 0, 1) := dk_42 (dk_at dksX6_at_0 0 rfl rfl)
theorem dX6_at_1 : decode cX6_at 1 = .ok (.getfield 10, 3) := dk_180 0 10 (dk_at dksX6_at_0 1 rfl rfl)
theorem dX6_at_4 : decode cX6_at 4 = .ok (.iload_n 1, 1) := dk_27 (dk_at dksX6_at_0 4 rfl rfl)
theorem dX6_at_5 : decode cX6_at 5 = .ok (.invokeinterface 29 2, 5) := by decide +kernel
theorem dX6_at_10 : decode cX6_at 10 = .ok (.checkcast 33, 3) := dk_192 0 33 (dk_at dksX6_at_0 10 rfl rfl)
theorem dX6_at_13 : decode cX6_at 13 = .ok (.invokevirtual 35, 3) := dk_182 0 35 (dk_at dksX6_at_0 13 rfl rfl)
theorem dX6_at_16 : decode cX6_at 16 = .ok (.ireturn, 1) := dk_172 (dk_at dksX6_at_0 16 rfl rfl)
abbrev cX6_isLast : ByteArray := prog_8_method_4_code
def yX6_isLast : MethodName := ⟨RX6, "isLast", "(I)Z"⟩
def dkwX6_isLast_0 : List UInt8 := [27, 42, 182, 0, 38, 4, 100, 160, 0, 7, 4, 167, 0, 4, 3, 172]
abbrev dktX6_isLast_0 : List UInt8 := dkwX6_isLast_0 ++ []
theorem dksX6_isLast_0 : cX6_isLast.data.toList.drop 0 = dktX6_isLast_0 := by decide +kernel
theorem dX6_isLast_0 : decode cX6_isLast 0 = .ok (.iload_n 1, 1) := dk_27 (dk_at dksX6_isLast_0 0 rfl rfl)
theorem dX6_isLast_1 : decode cX6_isLast 1 = .ok (.aload_n 0, 1) := dk_42 (dk_at dksX6_isLast_0 1 rfl rfl)
theorem dX6_isLast_2 : decode cX6_isLast 2 = .ok (.invokevirtual 38, 3) := dk_182 0 38 (dk_at dksX6_isLast_0 2 rfl rfl)
theorem dX6_isLast_5 : decode cX6_isLast 5 = .ok (.iconst 1, 1) := dk_4 (dk_at dksX6_isLast_0 5 rfl rfl)
theorem dX6_isLast_6 : decode cX6_isLast 6 = .ok (.isub, 1) := dk_100 (dk_at dksX6_isLast_0 6 rfl rfl)
theorem dX6_isLast_7 : decode cX6_isLast 7 = .ok (.if_icmp .ne 7, 3) := dk_160 0 7 (dk_at dksX6_isLast_0 7 rfl rfl)
theorem dX6_isLast_10 : decode cX6_isLast 10 = .ok (.iconst 1, 1) := dk_4 (dk_at dksX6_isLast_0 10 rfl rfl)
theorem dX6_isLast_11 : decode cX6_isLast 11 = .ok (.goto 4, 3) := dk_167 0 4 (dk_at dksX6_isLast_0 11 rfl rfl)
theorem dX6_isLast_14 : decode cX6_isLast 14 = .ok (.iconst 0, 1) := dk_3 (dk_at dksX6_isLast_0 14 rfl rfl)
theorem dX6_isLast_15 : decode cX6_isLast 15 = .ok (.ireturn, 1) := dk_172 (dk_at dksX6_isLast_0 15 rfl rfl)
abbrev cX6_init : ByteArray := prog_8_method_1_code
def yX6_init : MethodName := ⟨RX6, "<init>", "(II)V"⟩
def dkwX6_init_1 : List UInt8 := [181, 0, 20, 177]
abbrev dktX6_init_1 : List UInt8 := dkwX6_init_1 ++ []
def dkwX6_init_0 : List UInt8 := [42, 183, 0, 1, 42, 187, 0, 7, 89, 183, 0, 9, 181, 0, 10, 42, 27, 181, 0, 16, 42, 28]
abbrev dktX6_init_0 : List UInt8 := dkwX6_init_0 ++ dktX6_init_1
theorem dksX6_init_0 : cX6_init.data.toList.drop 0 = dktX6_init_0 := by decide +kernel
theorem dksX6_init_1 : cX6_init.data.toList.drop 22 = dktX6_init_1 := dk_seg dksX6_init_0 22 rfl rfl
theorem dX6_init_0 : decode cX6_init 0 = .ok (.aload_n 0, 1) := dk_42 (dk_at dksX6_init_0 0 rfl rfl)
theorem dX6_init_1 : decode cX6_init 1 = .ok (.invokespecial 1, 3) := dk_183 0 1 (dk_at dksX6_init_0 1 rfl rfl)
theorem dX6_init_4 : decode cX6_init 4 = .ok (.aload_n 0, 1) := dk_42 (dk_at dksX6_init_0 4 rfl rfl)
theorem dX6_init_5 : decode cX6_init 5 = .ok (.new 7, 3) := dk_187 0 7 (dk_at dksX6_init_0 5 rfl rfl)
theorem dX6_init_8 : decode cX6_init 8 = .ok (.dup, 1) := dk_89 (dk_at dksX6_init_0 8 rfl rfl)
theorem dX6_init_9 : decode cX6_init 9 = .ok (.invokespecial 9, 3) := dk_183 0 9 (dk_at dksX6_init_0 9 rfl rfl)
theorem dX6_init_12 : decode cX6_init 12 = .ok (.putfield 10, 3) := dk_181 0 10 (dk_at dksX6_init_0 12 rfl rfl)
theorem dX6_init_15 : decode cX6_init 15 = .ok (.aload_n 0, 1) := dk_42 (dk_at dksX6_init_0 15 rfl rfl)
theorem dX6_init_16 : decode cX6_init 16 = .ok (.iload_n 1, 1) := dk_27 (dk_at dksX6_init_0 16 rfl rfl)
theorem dX6_init_17 : decode cX6_init 17 = .ok (.putfield 16, 3) := dk_181 0 16 (dk_at dksX6_init_0 17 rfl rfl)
theorem dX6_init_20 : decode cX6_init 20 = .ok (.aload_n 0, 1) := dk_42 (dk_at dksX6_init_0 20 rfl rfl)
theorem dX6_init_21 : decode cX6_init 21 = .ok (.iload_n 2, 1) := dk_28 (dk_at dksX6_init_0 21 rfl rfl)
theorem dX6_init_22 : decode cX6_init 22 = .ok (.putfield 20, 3) := dk_181 0 20 (dk_at dksX6_init_1 0 rfl rfl)
theorem dX6_init_25 : decode cX6_init 25 = .ok (.return_, 1) := dk_177 (dk_at dksX6_init_1 3 rfl rfl)
abbrev cX6_fare : ByteArray := prog_8_method_5_code
def yX6_fare : MethodName := ⟨RX6, "fare", "()I"⟩
def dkwX6_fare_0 : List UInt8 := [42, 180, 0, 16, 4, 96, 172]
abbrev dktX6_fare_0 : List UInt8 := dkwX6_fare_0 ++ []
theorem dksX6_fare_0 : cX6_fare.data.toList.drop 0 = dktX6_fare_0 := by decide +kernel
theorem dX6_fare_0 : decode cX6_fare 0 = .ok (.aload_n 0, 1) := dk_42 (dk_at dksX6_fare_0 0 rfl rfl)
theorem dX6_fare_1 : decode cX6_fare 1 = .ok (.getfield 16, 3) := dk_180 0 16 (dk_at dksX6_fare_0 1 rfl rfl)
theorem dX6_fare_4 : decode cX6_fare 4 = .ok (.iconst 1, 1) := dk_4 (dk_at dksX6_fare_0 4 rfl rfl)
theorem dX6_fare_5 : decode cX6_fare 5 = .ok (.iadd, 1) := dk_96 (dk_at dksX6_fare_0 5 rfl rfl)
theorem dX6_fare_6 : decode cX6_fare 6 = .ok (.ireturn, 1) := dk_172 (dk_at dksX6_fare_0 6 rfl rfl)
theorem q129 : (Jvm.Cond.initialized "WingTrams$Owl") ∈ lw_all := lw_g (lw_at lw_m1 19 rfl) rfl
theorem q373 : (Jvm.Cond.selects "WingTrams$Owl" ({ cls := "java/lang/Object", name := "getClass", desc := "()Ljava/lang/Class;" } : Jvm.MethodName) ({ cls := "java/lang/Object", name := "getClass", desc := "()Ljava/lang/Class;" } : Jvm.MethodName)) ∈ lw_all := lw_g (lw_at lw_m2 23 rfl) rfl
theorem q544 : (Jvm.Cond.instanceMethod ({ cls := "WingTrams$Owl", name := "size", desc := "()I" } : Jvm.MethodName)) ∈ lw_all := lw_g (lw_at lw_m2 194 rfl) rfl
theorem q545 : (Jvm.Cond.selects "WingTrams$Owl" ({ cls := "WingTrams$Owl", name := "size", desc := "()I" } : Jvm.MethodName) ({ cls := "WingTrams$Owl", name := "size", desc := "()I" } : Jvm.MethodName)) ∈ lw_all := lw_g (lw_at lw_m2 195 rfl) rfl
theorem q546 : (Jvm.Cond.code ({ cls := "WingTrams$Owl", name := "size", desc := "()I" } : Jvm.MethodName) prog_8_method_2_code (1 : Nat) (Option.some Jvm.ClassFile.FieldType.int)) ∈ lw_all := lw_g (lw_at lw_m2 196 rfl) rfl
theorem q547 : (Jvm.Cond.interfaceEntry "WingTrams$Owl" (23 : Nat)) ∈ lw_tbl := lw_at lw_m2 197 rfl
theorem q548 : (Jvm.Cond.methodLink "WingTrams$Owl" (23 : Nat) ({ cls := "java/util/List", name := "size", desc := "()I" } : Jvm.MethodName)) ∈ lw_all := lw_g (lw_at lw_m2 198 rfl) rfl
theorem q558 : (Jvm.Cond.instanceMethod ({ cls := "WingTrams$Owl", name := "at", desc := "(I)I" } : Jvm.MethodName)) ∈ lw_all := lw_g (lw_at lw_m2 208 rfl) rfl
theorem q559 : (Jvm.Cond.selects "WingTrams$Owl" ({ cls := "WingTrams$Owl", name := "at", desc := "(I)I" } : Jvm.MethodName) ({ cls := "WingTrams$Owl", name := "at", desc := "(I)I" } : Jvm.MethodName)) ∈ lw_all := lw_g (lw_at lw_m2 209 rfl) rfl
theorem q560 : (Jvm.Cond.code ({ cls := "WingTrams$Owl", name := "at", desc := "(I)I" } : Jvm.MethodName) prog_8_method_3_code (2 : Nat) (Option.some Jvm.ClassFile.FieldType.int)) ∈ lw_all := lw_g (lw_at lw_m2 210 rfl) rfl
theorem q561 : (Jvm.Cond.interfaceEntry "WingTrams$Owl" (29 : Nat)) ∈ lw_tbl := lw_at lw_m2 211 rfl
theorem q562 : (Jvm.Cond.methodLink "WingTrams$Owl" (29 : Nat) ({ cls := "java/util/List", name := "get", desc := "(I)Ljava/lang/Object;" } : Jvm.MethodName)) ∈ lw_all := lw_g (lw_at lw_m2 212 rfl) rfl
theorem q563 : (Jvm.Cond.classLink "WingTrams$Owl" (33 : Nat) "java/lang/Integer") ∈ lw_all := lw_g (lw_at lw_m2 213 rfl) rfl
theorem q564 : (Jvm.Cond.methodLink "WingTrams$Owl" (35 : Nat) ({ cls := "java/lang/Integer", name := "intValue", desc := "()I" } : Jvm.MethodName)) ∈ lw_all := lw_g (lw_at lw_m2 214 rfl) rfl
theorem q639 : (Jvm.Cond.instanceMethod ({ cls := "WingTrams$Owl", name := "isLast", desc := "(I)Z" } : Jvm.MethodName)) ∈ lw_all := lw_g (lw_at lw_m3 49 rfl) rfl
theorem q640 : (Jvm.Cond.selects "WingTrams$Owl" ({ cls := "WingTrams$Owl", name := "isLast", desc := "(I)Z" } : Jvm.MethodName) ({ cls := "WingTrams$Owl", name := "isLast", desc := "(I)Z" } : Jvm.MethodName)) ∈ lw_all := lw_g (lw_at lw_m3 50 rfl) rfl
theorem q641 : (Jvm.Cond.code ({ cls := "WingTrams$Owl", name := "isLast", desc := "(I)Z" } : Jvm.MethodName) prog_8_method_4_code (2 : Nat) (Option.some Jvm.ClassFile.FieldType.boolean)) ∈ lw_all := lw_g (lw_at lw_m3 51 rfl) rfl
theorem q642 : (Jvm.Cond.methodLink "WingTrams$Owl" (38 : Nat) ({ cls := "WingTrams$Owl", name := "size", desc := "()I" } : Jvm.MethodName)) ∈ lw_all := lw_g (lw_at lw_m3 52 rfl) rfl
theorem q1019 : (Jvm.Cond.instantiable "WingTrams$Owl" (3 : Nat)) ∈ lw_all := lw_g (lw_at lw_m4 189 rfl) rfl
theorem q1029 : (Jvm.Cond.instanceMethod ({ cls := "WingTrams$Owl", name := "<init>", desc := "(II)V" } : Jvm.MethodName)) ∈ lw_all := lw_g (lw_at lw_m4 199 rfl) rfl
theorem q1030 : (Jvm.Cond.code ({ cls := "WingTrams$Owl", name := "<init>", desc := "(II)V" } : Jvm.MethodName) prog_8_method_1_code (3 : Nat) (Option.none : Option Jvm.ClassFile.FieldType)) ∈ lw_all := lw_g (lw_at lw_m4 200 rfl) rfl
theorem q1031 : (Jvm.Cond.methodLink "WingTrams$Owl" (1 : Nat) ({ cls := "java/lang/Object", name := "<init>", desc := "()V" } : Jvm.MethodName)) ∈ lw_all := lw_g (lw_at lw_m4 201 rfl) rfl
theorem q1032 : (Jvm.Cond.classLink "WingTrams$Owl" (7 : Nat) "java/util/ArrayList") ∈ lw_all := lw_g (lw_at lw_m4 202 rfl) rfl
theorem q1033 : (Jvm.Cond.methodLink "WingTrams$Owl" (9 : Nat) ({ cls := "java/util/ArrayList", name := "<init>", desc := "()V" } : Jvm.MethodName)) ∈ lw_all := lw_g (lw_at lw_m4 203 rfl) rfl
theorem q1034 : (Jvm.Cond.fieldLink "WingTrams$Owl" (16 : Nat) "WingTrams$Owl" "kind" "I") ∈ lw_all := lw_g (lw_at lw_m4 204 rfl) rfl
theorem q1037 : (Jvm.Cond.fieldLink "WingTrams$Owl" (20 : Nat) "WingTrams$Owl" "minute" "I") ∈ lw_all := lw_g (lw_at lw_m4 207 rfl) rfl
theorem q1040 : (Jvm.Cond.fieldLink "WingTrams$Owl" (10 : Nat) "WingTrams$Owl" "way" "Ljava/util/List;") ∈ lw_all := lw_g (lw_at lw_m4 210 rfl) rfl
theorem q1042 : (Jvm.Cond.laysFinal "WingTrams$Owl" "WingTrams$Owl" "kind" "I") ∈ lw_all := lw_g (lw_at lw_m4 212 rfl) rfl
theorem q1043 : (Jvm.Cond.soleField "WingTrams$Owl" "kind") ∈ lw_all := lw_g (lw_at lw_m4 213 rfl) rfl
theorem q1044 : (Jvm.Cond.lays "WingTrams$Owl" "WingTrams$Owl" "minute" "I") ∈ lw_all := lw_g (lw_at lw_m4 214 rfl) rfl
theorem q1045 : (Jvm.Cond.soleField "WingTrams$Owl" "minute") ∈ lw_all := lw_g (lw_at lw_m4 215 rfl) rfl
theorem q1046 : (Jvm.Cond.laysFinal "WingTrams$Owl" "WingTrams$Owl" "way" "Ljava/util/List;") ∈ lw_all := lw_g (lw_at lw_m4 216 rfl) rfl
theorem q1047 : (Jvm.Cond.soleField "WingTrams$Owl" "way") ∈ lw_all := lw_g (lw_at lw_m4 217 rfl) rfl
theorem q1048 : (Jvm.Cond.superclass "WingTrams$Owl" "java/lang/Object") ∈ lw_all := lw_g (lw_at lw_m4 218 rfl) rfl
theorem q1436 : (Jvm.Cond.instanceMethod ({ cls := "WingTrams$Owl", name := "fare", desc := "()I" } : Jvm.MethodName)) ∈ lw_all := lw_g (lw_at lw_m6 126 rfl) rfl
theorem q1437 : (Jvm.Cond.selects "WingTrams$Owl" ({ cls := "WingTrams$Owl", name := "fare", desc := "()I" } : Jvm.MethodName) ({ cls := "WingTrams$Owl", name := "fare", desc := "()I" } : Jvm.MethodName)) ∈ lw_all := lw_g (lw_at lw_m6 127 rfl) rfl
theorem q1438 : (Jvm.Cond.code ({ cls := "WingTrams$Owl", name := "fare", desc := "()I" } : Jvm.MethodName) prog_8_method_5_code (1 : Nat) (Option.some Jvm.ClassFile.FieldType.int)) ∈ lw_all := lw_g (lw_at lw_m6 128 rfl) rfl
theorem q2281 : (Jvm.Cond.castable "WingTrams$Owl" "java/lang/Object") ∈ lw_tbl := lw_at lw_m10 11 rfl
theorem in_X6 : ∀ w ∈ wsX60, w ∈ lw_all := lw_in wsX60 [1042, 1044, 1046] (by decide +kernel) (by decide +kernel)
/-! WingTrams$Chain -/
set_option maxRecDepth 100000
def RX7 : String := "WingTrams$Chain"
def TX7 : u_T := fun k => match k with
  | 0 => ("WingTrams$Chain", "forms", "Ljava/util/List;", true)
  | _ => ("WingTrams$Chain", "signs", "Ljava/lang/StringBuilder;", true)
def tyX7 : Nat → FieldType := fun k => match k with
  | 0 => .object "java/util/List"
  | _ => .object "java/lang/StringBuilder"
abbrev wsX70 : List Cond := u_ws RX7 TX7 2
theorem nmX7 : ∀ a, a < 2 → ∀ b, b < 2 → a ≠ b → (TX7 a).2.1 ≠ (TX7 b).2.1 := by decide +kernel
theorem tyX7_ok : ∀ k, k < 2 → parseFieldDescriptor (TX7 k).2.2.1 = some (tyX7 k) := by decide +kernel
abbrev cX7_of : ByteArray := prog_2_method_4_code
def yX7_of : MethodName := ⟨RX7, "of", "([I)I"⟩
def dkwX7_of_3 : List UInt8 := [132, 3, 1, 167, 255, 206, 28, 172]
abbrev dktX7_of_3 : List UInt8 := dkwX7_of_3 ++ []
def dkwX7_of_2 : List UInt8 := [180, 0, 10, 29, 185, 0, 37, 2, 0, 192, 0, 41, 43, 185, 0, 43, 2, 0, 184, 0, 51, 61]
abbrev dktX7_of_2 : List UInt8 := dkwX7_of_2 ++ dktX7_of_3
def dkwX7_of_1 : List UInt8 := [180, 0, 10, 185, 0, 33, 1, 0, 162, 0, 43, 42, 180, 0, 19, 29, 4, 100, 182, 0, 47, 28, 42]
abbrev dktX7_of_1 : List UInt8 := dkwX7_of_1 ++ dktX7_of_2
def dkwX7_of_0 : List UInt8 := [42, 180, 0, 10, 3, 185, 0, 37, 2, 0, 192, 0, 41, 43, 185, 0, 43, 2, 0, 61, 4, 62, 29, 42]
abbrev dktX7_of_0 : List UInt8 := dkwX7_of_0 ++ dktX7_of_1
theorem dksX7_of_0 : cX7_of.data.toList.drop 0 = dktX7_of_0 := by decide +kernel
theorem dksX7_of_1 : cX7_of.data.toList.drop 24 = dktX7_of_1 := dk_seg dksX7_of_0 24 rfl rfl
theorem dksX7_of_2 : cX7_of.data.toList.drop 47 = dktX7_of_2 := dk_seg dksX7_of_1 23 rfl rfl
theorem dksX7_of_3 : cX7_of.data.toList.drop 69 = dktX7_of_3 := dk_seg dksX7_of_2 22 rfl rfl
theorem dX7_of_0 : decode cX7_of 0 = .ok (.aload_n 0, 1) := dk_42 (dk_at dksX7_of_0 0 rfl rfl)
theorem dX7_of_1 : decode cX7_of 1 = .ok (.getfield 10, 3) := dk_180 0 10 (dk_at dksX7_of_0 1 rfl rfl)
theorem dX7_of_4 : decode cX7_of 4 = .ok (.iconst 0, 1) := dk_3 (dk_at dksX7_of_0 4 rfl rfl)
theorem dX7_of_5 : decode cX7_of 5 = .ok (.invokeinterface 37 2, 5) := by decide +kernel
theorem dX7_of_10 : decode cX7_of 10 = .ok (.checkcast 41, 3) := dk_192 0 41 (dk_at dksX7_of_0 10 rfl rfl)
theorem dX7_of_13 : decode cX7_of 13 = .ok (.aload_n 1, 1) := dk_43 (dk_at dksX7_of_0 13 rfl rfl)
theorem dX7_of_14 : decode cX7_of 14 = .ok (.invokeinterface 43 2, 5) := by decide +kernel
theorem dX7_of_19 : decode cX7_of 19 = .ok (.istore_n 2, 1) := dk_61 (dk_at dksX7_of_0 19 rfl rfl)
theorem dX7_of_20 : decode cX7_of 20 = .ok (.iconst 1, 1) := dk_4 (dk_at dksX7_of_0 20 rfl rfl)
theorem dX7_of_21 : decode cX7_of 21 = .ok (.istore_n 3, 1) := dk_62 (dk_at dksX7_of_0 21 rfl rfl)
theorem dX7_of_22 : decode cX7_of 22 = .ok (.iload_n 3, 1) := dk_29 (dk_at dksX7_of_0 22 rfl rfl)
theorem dX7_of_23 : decode cX7_of 23 = .ok (.aload_n 0, 1) := dk_42 (dk_at dksX7_of_0 23 rfl rfl)
theorem dX7_of_24 : decode cX7_of 24 = .ok (.getfield 10, 3) := dk_180 0 10 (dk_at dksX7_of_1 0 rfl rfl)
theorem dX7_of_27 : decode cX7_of 27 = .ok (.invokeinterface 33 1, 5) := by decide +kernel
theorem dX7_of_32 : decode cX7_of 32 = .ok (.if_icmp .ge 43, 3) := dk_162 0 43 (dk_at dksX7_of_1 8 rfl rfl)
theorem dX7_of_35 : decode cX7_of 35 = .ok (.aload_n 0, 1) := dk_42 (dk_at dksX7_of_1 11 rfl rfl)
theorem dX7_of_36 : decode cX7_of 36 = .ok (.getfield 19, 3) := dk_180 0 19 (dk_at dksX7_of_1 12 rfl rfl)
theorem dX7_of_39 : decode cX7_of 39 = .ok (.iload_n 3, 1) := dk_29 (dk_at dksX7_of_1 15 rfl rfl)
theorem dX7_of_40 : decode cX7_of 40 = .ok (.iconst 1, 1) := dk_4 (dk_at dksX7_of_1 16 rfl rfl)
theorem dX7_of_41 : decode cX7_of 41 = .ok (.isub, 1) := dk_100 (dk_at dksX7_of_1 17 rfl rfl)
theorem dX7_of_42 : decode cX7_of 42 = .ok (.invokevirtual 47, 3) := dk_182 0 47 (dk_at dksX7_of_1 18 rfl rfl)
theorem dX7_of_45 : decode cX7_of 45 = .ok (.iload_n 2, 1) := dk_28 (dk_at dksX7_of_1 21 rfl rfl)
theorem dX7_of_46 : decode cX7_of 46 = .ok (.aload_n 0, 1) := dk_42 (dk_at dksX7_of_1 22 rfl rfl)
theorem dX7_of_47 : decode cX7_of 47 = .ok (.getfield 10, 3) := dk_180 0 10 (dk_at dksX7_of_2 0 rfl rfl)
theorem dX7_of_50 : decode cX7_of 50 = .ok (.iload_n 3, 1) := dk_29 (dk_at dksX7_of_2 3 rfl rfl)
theorem dX7_of_51 : decode cX7_of 51 = .ok (.invokeinterface 37 2, 5) := by decide +kernel
theorem dX7_of_56 : decode cX7_of 56 = .ok (.checkcast 41, 3) := dk_192 0 41 (dk_at dksX7_of_2 9 rfl rfl)
theorem dX7_of_59 : decode cX7_of 59 = .ok (.aload_n 1, 1) := dk_43 (dk_at dksX7_of_2 12 rfl rfl)
theorem dX7_of_60 : decode cX7_of 60 = .ok (.invokeinterface 43 2, 5) := by decide +kernel
theorem dX7_of_65 : decode cX7_of 65 = .ok (.invokestatic 51, 3) := dk_184 0 51 (dk_at dksX7_of_2 18 rfl rfl)
theorem dX7_of_68 : decode cX7_of 68 = .ok (.istore_n 2, 1) := dk_61 (dk_at dksX7_of_2 21 rfl rfl)
theorem dX7_of_69 : decode cX7_of 69 = .ok (.iinc 3 1, 3) := dk_132 3 1 (dk_at dksX7_of_3 0 rfl rfl)
theorem dX7_of_72 : decode cX7_of 72 = .ok (.goto (-50), 3) := dk_167 255 206 (dk_at dksX7_of_3 3 rfl rfl)
theorem dX7_of_75 : decode cX7_of 75 = .ok (.iload_n 2, 1) := dk_28 (dk_at dksX7_of_3 6 rfl rfl)
theorem dX7_of_76 : decode cX7_of 76 = .ok (.ireturn, 1) := dk_172 (dk_at dksX7_of_3 7 rfl rfl)
abbrev cX7_by : ByteArray := prog_2_method_5_code
def yX7_by : MethodName := ⟨RX7, "by", "(CII)I"⟩
def dkwX7_by_5 : List UInt8 := [167, 0, 4, 3, 172]
abbrev dktX7_by_5 : List UInt8 := dkwX7_by_5 ++ []
def dkwX7_by_4 : List UInt8 := [153, 0, 11, 28, 153, 0, 7, 4, 167, 0, 4, 3, 172, 27, 154, 0, 7, 28, 153, 0, 7, 4]
abbrev dktX7_by_4 : List UInt8 := dkwX7_by_4 ++ dktX7_by_5
def dkwX7_by_3 : List UInt8 := [27, 28, 162, 0, 7, 4, 167, 0, 4, 3, 172, 27, 28, 160, 0, 7, 4, 167, 0, 4, 3, 172, 27]
abbrev dktX7_by_3 : List UInt8 := dkwX7_by_3 ++ dktX7_by_4
def dkwX7_by_2 : List UInt8 := [27, 28, 96, 172, 27, 28, 100, 172, 27, 28, 104, 172, 28, 154, 0, 7, 3, 167, 0, 6, 27, 28, 108, 172]
abbrev dktX7_by_2 : List UInt8 := dkwX7_by_2 ++ dktX7_by_3
def dkwX7_by_1 : List UInt8 := [170, 0, 0, 0, 0, 0, 171, 0, 0, 0, 38, 0, 0, 0, 61, 0, 0, 0, 157, 0, 0, 0, 171, 0, 0, 0, 171, 0, 0, 0, 171, 0, 0, 0, 119, 0, 0, 0, 111, 0, 0, 0, 171, 0, 0, 0, 115, 0, 0, 0, 171, 0, 0, 0, 123, 0, 0, 0, 171, 0, 0, 0, 171, 0, 0, 0, 171, 0, 0, 0, 171, 0, 0, 0, 171, 0, 0, 0, 171, 0, 0, 0, 171, 0, 0, 0, 171, 0, 0, 0, 171, 0, 0, 0, 171, 0, 0, 0, 171, 0, 0, 0, 171, 0, 0, 0, 135, 0, 0, 0, 146]
abbrev dktX7_by_1 : List UInt8 := dkwX7_by_1 ++ dktX7_by_2
def dkwX7_by_0 : List UInt8 := [26]
abbrev dktX7_by_0 : List UInt8 := dkwX7_by_0 ++ dktX7_by_1
theorem dksX7_by_0 : cX7_by.data.toList.drop 0 = dktX7_by_0 := by decide +kernel
theorem dksX7_by_1 : cX7_by.data.toList.drop 1 = dktX7_by_1 := dk_seg dksX7_by_0 1 rfl rfl
theorem dksX7_by_2 : cX7_by.data.toList.drop 112 = dktX7_by_2 := dk_seg dksX7_by_1 111 rfl rfl
theorem dksX7_by_3 : cX7_by.data.toList.drop 136 = dktX7_by_3 := dk_seg dksX7_by_2 24 rfl rfl
theorem dksX7_by_4 : cX7_by.data.toList.drop 159 = dktX7_by_4 := dk_seg dksX7_by_3 23 rfl rfl
theorem dksX7_by_5 : cX7_by.data.toList.drop 181 = dktX7_by_5 := dk_seg dksX7_by_4 22 rfl rfl
theorem dX7_by_0 : decode cX7_by 0 = .ok (.iload_n 0, 1) := dk_26 (dk_at dksX7_by_0 0 rfl rfl)
theorem dX7_by_1 : decode cX7_by 1 = .ok (.tableswitch 171 38 61 #[157, 171, 171, 171, 119, 111, 171, 115, 171, 123, 171, 171, 171, 171, 171, 171, 171, 171, 171, 171, 171, 171, 135, 146], 111) := by decide +kernel
theorem dX7_by_112 : decode cX7_by 112 = .ok (.iload_n 1, 1) := dk_27 (dk_at dksX7_by_2 0 rfl rfl)
theorem dX7_by_113 : decode cX7_by 113 = .ok (.iload_n 2, 1) := dk_28 (dk_at dksX7_by_2 1 rfl rfl)
theorem dX7_by_114 : decode cX7_by 114 = .ok (.iadd, 1) := dk_96 (dk_at dksX7_by_2 2 rfl rfl)
theorem dX7_by_115 : decode cX7_by 115 = .ok (.ireturn, 1) := dk_172 (dk_at dksX7_by_2 3 rfl rfl)
theorem dX7_by_116 : decode cX7_by 116 = .ok (.iload_n 1, 1) := dk_27 (dk_at dksX7_by_2 4 rfl rfl)
theorem dX7_by_117 : decode cX7_by 117 = .ok (.iload_n 2, 1) := dk_28 (dk_at dksX7_by_2 5 rfl rfl)
theorem dX7_by_118 : decode cX7_by 118 = .ok (.isub, 1) := dk_100 (dk_at dksX7_by_2 6 rfl rfl)
theorem dX7_by_119 : decode cX7_by 119 = .ok (.ireturn, 1) := dk_172 (dk_at dksX7_by_2 7 rfl rfl)
theorem dX7_by_120 : decode cX7_by 120 = .ok (.iload_n 1, 1) := dk_27 (dk_at dksX7_by_2 8 rfl rfl)
theorem dX7_by_121 : decode cX7_by 121 = .ok (.iload_n 2, 1) := dk_28 (dk_at dksX7_by_2 9 rfl rfl)
theorem dX7_by_122 : decode cX7_by 122 = .ok (.imul, 1) := dk_104 (dk_at dksX7_by_2 10 rfl rfl)
theorem dX7_by_123 : decode cX7_by 123 = .ok (.ireturn, 1) := dk_172 (dk_at dksX7_by_2 11 rfl rfl)
theorem dX7_by_124 : decode cX7_by 124 = .ok (.iload_n 2, 1) := dk_28 (dk_at dksX7_by_2 12 rfl rfl)
theorem dX7_by_125 : decode cX7_by 125 = .ok (.ifCond .ne 7, 3) := dk_154 0 7 (dk_at dksX7_by_2 13 rfl rfl)
theorem dX7_by_128 : decode cX7_by 128 = .ok (.iconst 0, 1) := dk_3 (dk_at dksX7_by_2 16 rfl rfl)
theorem dX7_by_129 : decode cX7_by 129 = .ok (.goto 6, 3) := dk_167 0 6 (dk_at dksX7_by_2 17 rfl rfl)
theorem dX7_by_132 : decode cX7_by 132 = .ok (.iload_n 1, 1) := dk_27 (dk_at dksX7_by_2 20 rfl rfl)
theorem dX7_by_133 : decode cX7_by 133 = .ok (.iload_n 2, 1) := dk_28 (dk_at dksX7_by_2 21 rfl rfl)
theorem dX7_by_134 : decode cX7_by 134 = .ok (.idiv, 1) := dk_108 (dk_at dksX7_by_2 22 rfl rfl)
theorem dX7_by_135 : decode cX7_by 135 = .ok (.ireturn, 1) := dk_172 (dk_at dksX7_by_2 23 rfl rfl)
theorem dX7_by_136 : decode cX7_by 136 = .ok (.iload_n 1, 1) := dk_27 (dk_at dksX7_by_3 0 rfl rfl)
theorem dX7_by_137 : decode cX7_by 137 = .ok (.iload_n 2, 1) := dk_28 (dk_at dksX7_by_3 1 rfl rfl)
theorem dX7_by_138 : decode cX7_by 138 = .ok (.if_icmp .ge 7, 3) := dk_162 0 7 (dk_at dksX7_by_3 2 rfl rfl)
theorem dX7_by_141 : decode cX7_by 141 = .ok (.iconst 1, 1) := dk_4 (dk_at dksX7_by_3 5 rfl rfl)
theorem dX7_by_142 : decode cX7_by 142 = .ok (.goto 4, 3) := dk_167 0 4 (dk_at dksX7_by_3 6 rfl rfl)
theorem dX7_by_145 : decode cX7_by 145 = .ok (.iconst 0, 1) := dk_3 (dk_at dksX7_by_3 9 rfl rfl)
theorem dX7_by_146 : decode cX7_by 146 = .ok (.ireturn, 1) := dk_172 (dk_at dksX7_by_3 10 rfl rfl)
theorem dX7_by_147 : decode cX7_by 147 = .ok (.iload_n 1, 1) := dk_27 (dk_at dksX7_by_3 11 rfl rfl)
theorem dX7_by_148 : decode cX7_by 148 = .ok (.iload_n 2, 1) := dk_28 (dk_at dksX7_by_3 12 rfl rfl)
theorem dX7_by_149 : decode cX7_by 149 = .ok (.if_icmp .ne 7, 3) := dk_160 0 7 (dk_at dksX7_by_3 13 rfl rfl)
theorem dX7_by_152 : decode cX7_by 152 = .ok (.iconst 1, 1) := dk_4 (dk_at dksX7_by_3 16 rfl rfl)
theorem dX7_by_153 : decode cX7_by 153 = .ok (.goto 4, 3) := dk_167 0 4 (dk_at dksX7_by_3 17 rfl rfl)
theorem dX7_by_156 : decode cX7_by 156 = .ok (.iconst 0, 1) := dk_3 (dk_at dksX7_by_3 20 rfl rfl)
theorem dX7_by_157 : decode cX7_by 157 = .ok (.ireturn, 1) := dk_172 (dk_at dksX7_by_3 21 rfl rfl)
theorem dX7_by_158 : decode cX7_by 158 = .ok (.iload_n 1, 1) := dk_27 (dk_at dksX7_by_3 22 rfl rfl)
theorem dX7_by_159 : decode cX7_by 159 = .ok (.ifCond .eq 11, 3) := dk_153 0 11 (dk_at dksX7_by_4 0 rfl rfl)
theorem dX7_by_162 : decode cX7_by 162 = .ok (.iload_n 2, 1) := dk_28 (dk_at dksX7_by_4 3 rfl rfl)
theorem dX7_by_163 : decode cX7_by 163 = .ok (.ifCond .eq 7, 3) := dk_153 0 7 (dk_at dksX7_by_4 4 rfl rfl)
theorem dX7_by_166 : decode cX7_by 166 = .ok (.iconst 1, 1) := dk_4 (dk_at dksX7_by_4 7 rfl rfl)
theorem dX7_by_167 : decode cX7_by 167 = .ok (.goto 4, 3) := dk_167 0 4 (dk_at dksX7_by_4 8 rfl rfl)
theorem dX7_by_170 : decode cX7_by 170 = .ok (.iconst 0, 1) := dk_3 (dk_at dksX7_by_4 11 rfl rfl)
theorem dX7_by_171 : decode cX7_by 171 = .ok (.ireturn, 1) := dk_172 (dk_at dksX7_by_4 12 rfl rfl)
theorem dX7_by_172 : decode cX7_by 172 = .ok (.iload_n 1, 1) := dk_27 (dk_at dksX7_by_4 13 rfl rfl)
theorem dX7_by_173 : decode cX7_by 173 = .ok (.ifCond .ne 7, 3) := dk_154 0 7 (dk_at dksX7_by_4 14 rfl rfl)
theorem dX7_by_176 : decode cX7_by 176 = .ok (.iload_n 2, 1) := dk_28 (dk_at dksX7_by_4 17 rfl rfl)
theorem dX7_by_177 : decode cX7_by 177 = .ok (.ifCond .eq 7, 3) := dk_153 0 7 (dk_at dksX7_by_4 18 rfl rfl)
theorem dX7_by_180 : decode cX7_by 180 = .ok (.iconst 1, 1) := dk_4 (dk_at dksX7_by_4 21 rfl rfl)
theorem dX7_by_181 : decode cX7_by 181 = .ok (.goto 4, 3) := dk_167 0 4 (dk_at dksX7_by_5 0 rfl rfl)
theorem dX7_by_184 : decode cX7_by 184 = .ok (.iconst 0, 1) := dk_3 (dk_at dksX7_by_5 3 rfl rfl)
theorem dX7_by_185 : decode cX7_by 185 = .ok (.ireturn, 1) := dk_172 (dk_at dksX7_by_5 4 rfl rfl)
abbrev cX7_init : ByteArray := prog_2_method_1_code
def yX7_init : MethodName := ⟨RX7, "<init>", "(LWingTrams$Form;)V"⟩
def dkwX7_init_1 : List UInt8 := [181, 0, 19, 42, 180, 0, 10, 43, 185, 0, 23, 2, 0, 87, 177]
abbrev dktX7_init_1 : List UInt8 := dkwX7_init_1 ++ []
def dkwX7_init_0 : List UInt8 := [42, 183, 0, 1, 42, 187, 0, 7, 89, 183, 0, 9, 181, 0, 10, 42, 187, 0, 16, 89, 183, 0, 18]
abbrev dktX7_init_0 : List UInt8 := dkwX7_init_0 ++ dktX7_init_1
theorem dksX7_init_0 : cX7_init.data.toList.drop 0 = dktX7_init_0 := by decide +kernel
theorem dksX7_init_1 : cX7_init.data.toList.drop 23 = dktX7_init_1 := dk_seg dksX7_init_0 23 rfl rfl
theorem dX7_init_0 : decode cX7_init 0 = .ok (.aload_n 0, 1) := dk_42 (dk_at dksX7_init_0 0 rfl rfl)
theorem dX7_init_1 : decode cX7_init 1 = .ok (.invokespecial 1, 3) := dk_183 0 1 (dk_at dksX7_init_0 1 rfl rfl)
theorem dX7_init_4 : decode cX7_init 4 = .ok (.aload_n 0, 1) := dk_42 (dk_at dksX7_init_0 4 rfl rfl)
theorem dX7_init_5 : decode cX7_init 5 = .ok (.new 7, 3) := dk_187 0 7 (dk_at dksX7_init_0 5 rfl rfl)
theorem dX7_init_8 : decode cX7_init 8 = .ok (.dup, 1) := dk_89 (dk_at dksX7_init_0 8 rfl rfl)
theorem dX7_init_9 : decode cX7_init 9 = .ok (.invokespecial 9, 3) := dk_183 0 9 (dk_at dksX7_init_0 9 rfl rfl)
theorem dX7_init_12 : decode cX7_init 12 = .ok (.putfield 10, 3) := dk_181 0 10 (dk_at dksX7_init_0 12 rfl rfl)
theorem dX7_init_15 : decode cX7_init 15 = .ok (.aload_n 0, 1) := dk_42 (dk_at dksX7_init_0 15 rfl rfl)
theorem dX7_init_16 : decode cX7_init 16 = .ok (.new 16, 3) := dk_187 0 16 (dk_at dksX7_init_0 16 rfl rfl)
theorem dX7_init_19 : decode cX7_init 19 = .ok (.dup, 1) := dk_89 (dk_at dksX7_init_0 19 rfl rfl)
theorem dX7_init_20 : decode cX7_init 20 = .ok (.invokespecial 18, 3) := dk_183 0 18 (dk_at dksX7_init_0 20 rfl rfl)
theorem dX7_init_23 : decode cX7_init 23 = .ok (.putfield 19, 3) := dk_181 0 19 (dk_at dksX7_init_1 0 rfl rfl)
theorem dX7_init_26 : decode cX7_init 26 = .ok (.aload_n 0, 1) := dk_42 (dk_at dksX7_init_1 3 rfl rfl)
theorem dX7_init_27 : decode cX7_init 27 = .ok (.getfield 10, 3) := dk_180 0 10 (dk_at dksX7_init_1 4 rfl rfl)
theorem dX7_init_30 : decode cX7_init 30 = .ok (.aload_n 1, 1) := dk_43 (dk_at dksX7_init_1 7 rfl rfl)
theorem dX7_init_31 : decode cX7_init 31 = .ok (.invokeinterface 23 2, 5) := by decide +kernel
theorem dX7_init_36 : decode cX7_init 36 = .ok (.pop, 1) := dk_87 (dk_at dksX7_init_1 13 rfl rfl)
theorem dX7_init_37 : decode cX7_init 37 = .ok (.return_, 1) := dk_177 (dk_at dksX7_init_1 14 rfl rfl)
abbrev cX7_add : ByteArray := prog_2_method_2_code
def yX7_add : MethodName := ⟨RX7, "add", "(CLWingTrams$Form;)V"⟩
def dkwX7_add_0 : List UInt8 := [42, 180, 0, 19, 27, 182, 0, 29, 87, 42, 180, 0, 10, 44, 185, 0, 23, 2, 0, 87, 177]
abbrev dktX7_add_0 : List UInt8 := dkwX7_add_0 ++ []
theorem dksX7_add_0 : cX7_add.data.toList.drop 0 = dktX7_add_0 := by decide +kernel
theorem dX7_add_0 : decode cX7_add 0 = .ok (.aload_n 0, 1) := dk_42 (dk_at dksX7_add_0 0 rfl rfl)
theorem dX7_add_1 : decode cX7_add 1 = .ok (.getfield 19, 3) := dk_180 0 19 (dk_at dksX7_add_0 1 rfl rfl)
theorem dX7_add_4 : decode cX7_add 4 = .ok (.iload_n 1, 1) := dk_27 (dk_at dksX7_add_0 4 rfl rfl)
theorem dX7_add_5 : decode cX7_add 5 = .ok (.invokevirtual 29, 3) := dk_182 0 29 (dk_at dksX7_add_0 5 rfl rfl)
theorem dX7_add_8 : decode cX7_add 8 = .ok (.pop, 1) := dk_87 (dk_at dksX7_add_0 8 rfl rfl)
theorem dX7_add_9 : decode cX7_add 9 = .ok (.aload_n 0, 1) := dk_42 (dk_at dksX7_add_0 9 rfl rfl)
theorem dX7_add_10 : decode cX7_add 10 = .ok (.getfield 10, 3) := dk_180 0 10 (dk_at dksX7_add_0 10 rfl rfl)
theorem dX7_add_13 : decode cX7_add 13 = .ok (.aload_n 2, 1) := dk_44 (dk_at dksX7_add_0 13 rfl rfl)
theorem dX7_add_14 : decode cX7_add 14 = .ok (.invokeinterface 23 2, 5) := by decide +kernel
theorem dX7_add_19 : decode cX7_add 19 = .ok (.pop, 1) := dk_87 (dk_at dksX7_add_0 19 rfl rfl)
theorem dX7_add_20 : decode cX7_add 20 = .ok (.return_, 1) := dk_177 (dk_at dksX7_add_0 20 rfl rfl)
abbrev cX7_plain : ByteArray := prog_2_method_3_code
def yX7_plain : MethodName := ⟨RX7, "plain", "()LWingTrams$Form;"⟩
def dkwX7_plain_1 : List UInt8 := [192, 0, 41, 167, 0, 4, 42, 176]
abbrev dktX7_plain_1 : List UInt8 := dkwX7_plain_1 ++ []
def dkwX7_plain_0 : List UInt8 := [42, 180, 0, 10, 185, 0, 33, 1, 0, 4, 160, 0, 19, 42, 180, 0, 10, 3, 185, 0, 37, 2, 0]
abbrev dktX7_plain_0 : List UInt8 := dkwX7_plain_0 ++ dktX7_plain_1
theorem dksX7_plain_0 : cX7_plain.data.toList.drop 0 = dktX7_plain_0 := by decide +kernel
theorem dksX7_plain_1 : cX7_plain.data.toList.drop 23 = dktX7_plain_1 := dk_seg dksX7_plain_0 23 rfl rfl
theorem dX7_plain_0 : decode cX7_plain 0 = .ok (.aload_n 0, 1) := dk_42 (dk_at dksX7_plain_0 0 rfl rfl)
theorem dX7_plain_1 : decode cX7_plain 1 = .ok (.getfield 10, 3) := dk_180 0 10 (dk_at dksX7_plain_0 1 rfl rfl)
theorem dX7_plain_4 : decode cX7_plain 4 = .ok (.invokeinterface 33 1, 5) := by decide +kernel
theorem dX7_plain_9 : decode cX7_plain 9 = .ok (.iconst 1, 1) := dk_4 (dk_at dksX7_plain_0 9 rfl rfl)
theorem dX7_plain_10 : decode cX7_plain 10 = .ok (.if_icmp .ne 19, 3) := dk_160 0 19 (dk_at dksX7_plain_0 10 rfl rfl)
theorem dX7_plain_13 : decode cX7_plain 13 = .ok (.aload_n 0, 1) := dk_42 (dk_at dksX7_plain_0 13 rfl rfl)
theorem dX7_plain_14 : decode cX7_plain 14 = .ok (.getfield 10, 3) := dk_180 0 10 (dk_at dksX7_plain_0 14 rfl rfl)
theorem dX7_plain_17 : decode cX7_plain 17 = .ok (.iconst 0, 1) := dk_3 (dk_at dksX7_plain_0 17 rfl rfl)
theorem dX7_plain_18 : decode cX7_plain 18 = .ok (.invokeinterface 37 2, 5) := by decide +kernel
theorem dX7_plain_23 : decode cX7_plain 23 = .ok (.checkcast 41, 3) := dk_192 0 41 (dk_at dksX7_plain_1 0 rfl rfl)
theorem dX7_plain_26 : decode cX7_plain 26 = .ok (.goto 4, 3) := dk_167 0 4 (dk_at dksX7_plain_1 3 rfl rfl)
theorem dX7_plain_29 : decode cX7_plain 29 = .ok (.aload_n 0, 1) := dk_42 (dk_at dksX7_plain_1 6 rfl rfl)
theorem dX7_plain_30 : decode cX7_plain 30 = .ok (.areturn, 1) := dk_176 (dk_at dksX7_plain_1 7 rfl rfl)
theorem q137 : (Jvm.Cond.initialized "WingTrams$Chain") ∈ lw_all := lw_g (lw_at lw_m1 27 rfl) rfl
theorem q368 : (Jvm.Cond.selects "WingTrams$Chain" ({ cls := "java/lang/Object", name := "getClass", desc := "()Ljava/lang/Class;" } : Jvm.MethodName) ({ cls := "java/lang/Object", name := "getClass", desc := "()Ljava/lang/Class;" } : Jvm.MethodName)) ∈ lw_all := lw_g (lw_at lw_m2 18 rfl) rfl
theorem q573 : (Jvm.Cond.castable "WingTrams$Chain" "WingTrams$Form") ∈ lw_tbl := lw_at lw_m2 223 rfl
theorem q574 : (Jvm.Cond.selects "WingTrams$Chain" ({ cls := "WingTrams$Form", name := "of", desc := "([I)I" } : Jvm.MethodName) ({ cls := "WingTrams$Chain", name := "of", desc := "([I)I" } : Jvm.MethodName)) ∈ lw_all := lw_g (lw_at lw_m2 224 rfl) rfl
theorem q575 : (Jvm.Cond.unhidden "WingTrams$Chain" "of" "([I)I") ∈ lw_tbl := lw_at lw_m2 225 rfl
theorem q576 : (Jvm.Cond.instanceMethod ({ cls := "WingTrams$Chain", name := "of", desc := "([I)I" } : Jvm.MethodName)) ∈ lw_all := lw_g (lw_at lw_m2 226 rfl) rfl
theorem q577 : (Jvm.Cond.publicMethod ({ cls := "WingTrams$Chain", name := "of", desc := "([I)I" } : Jvm.MethodName)) ∈ lw_tbl := lw_at lw_m2 227 rfl
theorem q578 : (Jvm.Cond.code ({ cls := "WingTrams$Chain", name := "of", desc := "([I)I" } : Jvm.MethodName) prog_2_method_4_code (4 : Nat) (Option.some Jvm.ClassFile.FieldType.int)) ∈ lw_all := lw_g (lw_at lw_m2 228 rfl) rfl
theorem q579 : (Jvm.Cond.interfaceEntry "WingTrams$Chain" (37 : Nat)) ∈ lw_tbl := lw_at lw_m2 229 rfl
theorem q580 : (Jvm.Cond.methodLink "WingTrams$Chain" (37 : Nat) ({ cls := "java/util/List", name := "get", desc := "(I)Ljava/lang/Object;" } : Jvm.MethodName)) ∈ lw_all := lw_g (lw_at lw_m2 230 rfl) rfl
theorem q581 : (Jvm.Cond.classLink "WingTrams$Chain" (41 : Nat) "WingTrams$Form") ∈ lw_all := lw_g (lw_at lw_m2 231 rfl) rfl
theorem q582 : (Jvm.Cond.interfaceEntry "WingTrams$Chain" (43 : Nat)) ∈ lw_tbl := lw_at lw_m2 232 rfl
theorem q583 : (Jvm.Cond.methodLink "WingTrams$Chain" (43 : Nat) ({ cls := "WingTrams$Form", name := "of", desc := "([I)I" } : Jvm.MethodName)) ∈ lw_all := lw_g (lw_at lw_m2 233 rfl) rfl
theorem q604 : (Jvm.Cond.interfaceEntry "WingTrams$Chain" (33 : Nat)) ∈ lw_tbl := lw_at lw_m3 14 rfl
theorem q605 : (Jvm.Cond.methodLink "WingTrams$Chain" (33 : Nat) ({ cls := "java/util/List", name := "size", desc := "()I" } : Jvm.MethodName)) ∈ lw_all := lw_g (lw_at lw_m3 15 rfl) rfl
theorem q606 : (Jvm.Cond.methodLink "WingTrams$Chain" (47 : Nat) ({ cls := "java/lang/StringBuilder", name := "charAt", desc := "(I)C" } : Jvm.MethodName)) ∈ lw_all := lw_g (lw_at lw_m3 16 rfl) rfl
theorem q633 : (Jvm.Cond.methodLink "WingTrams$Chain" (51 : Nat) ({ cls := "WingTrams$Chain", name := "by", desc := "(CII)I" } : Jvm.MethodName)) ∈ lw_all := lw_g (lw_at lw_m3 43 rfl) rfl
theorem q634 : (Jvm.Cond.static ({ cls := "WingTrams$Chain", name := "by", desc := "(CII)I" } : Jvm.MethodName)) ∈ lw_all := lw_g (lw_at lw_m3 44 rfl) rfl
theorem q635 : (Jvm.Cond.code ({ cls := "WingTrams$Chain", name := "by", desc := "(CII)I" } : Jvm.MethodName) prog_2_method_5_code (3 : Nat) (Option.some Jvm.ClassFile.FieldType.int)) ∈ lw_all := lw_g (lw_at lw_m3 45 rfl) rfl
theorem q1107 : (Jvm.Cond.instantiable "WingTrams$Chain" (2 : Nat)) ∈ lw_all := lw_g (lw_at lw_m5 37 rfl) rfl
theorem q1157 : (Jvm.Cond.instanceMethod ({ cls := "WingTrams$Chain", name := "<init>", desc := "(LWingTrams$Form;)V" } : Jvm.MethodName)) ∈ lw_all := lw_g (lw_at lw_m5 87 rfl) rfl
theorem q1158 : (Jvm.Cond.code ({ cls := "WingTrams$Chain", name := "<init>", desc := "(LWingTrams$Form;)V" } : Jvm.MethodName) prog_2_method_1_code (2 : Nat) (Option.none : Option Jvm.ClassFile.FieldType)) ∈ lw_all := lw_g (lw_at lw_m5 88 rfl) rfl
theorem q1159 : (Jvm.Cond.methodLink "WingTrams$Chain" (1 : Nat) ({ cls := "java/lang/Object", name := "<init>", desc := "()V" } : Jvm.MethodName)) ∈ lw_all := lw_g (lw_at lw_m5 89 rfl) rfl
theorem q1160 : (Jvm.Cond.classLink "WingTrams$Chain" (7 : Nat) "java/util/ArrayList") ∈ lw_all := lw_g (lw_at lw_m5 90 rfl) rfl
theorem q1161 : (Jvm.Cond.methodLink "WingTrams$Chain" (9 : Nat) ({ cls := "java/util/ArrayList", name := "<init>", desc := "()V" } : Jvm.MethodName)) ∈ lw_all := lw_g (lw_at lw_m5 91 rfl) rfl
theorem q1162 : (Jvm.Cond.classLink "WingTrams$Chain" (16 : Nat) "java/lang/StringBuilder") ∈ lw_all := lw_g (lw_at lw_m5 92 rfl) rfl
theorem q1164 : (Jvm.Cond.methodLink "WingTrams$Chain" (18 : Nat) ({ cls := "java/lang/StringBuilder", name := "<init>", desc := "()V" } : Jvm.MethodName)) ∈ lw_all := lw_g (lw_at lw_m5 94 rfl) rfl
theorem q1190 : (Jvm.Cond.interfaceEntry "WingTrams$Chain" (23 : Nat)) ∈ lw_tbl := lw_at lw_m5 120 rfl
theorem q1191 : (Jvm.Cond.methodLink "WingTrams$Chain" (23 : Nat) ({ cls := "java/util/List", name := "add", desc := "(Ljava/lang/Object;)Z" } : Jvm.MethodName)) ∈ lw_all := lw_g (lw_at lw_m5 121 rfl) rfl
theorem q1192 : (Jvm.Cond.fieldLink "WingTrams$Chain" (10 : Nat) "WingTrams$Chain" "forms" "Ljava/util/List;") ∈ lw_all := lw_g (lw_at lw_m5 122 rfl) rfl
theorem q1193 : (Jvm.Cond.fieldLink "WingTrams$Chain" (19 : Nat) "WingTrams$Chain" "signs" "Ljava/lang/StringBuilder;") ∈ lw_all := lw_g (lw_at lw_m5 123 rfl) rfl
theorem q1194 : (Jvm.Cond.laysFinal "WingTrams$Chain" "WingTrams$Chain" "forms" "Ljava/util/List;") ∈ lw_all := lw_g (lw_at lw_m5 124 rfl) rfl
theorem q1195 : (Jvm.Cond.soleField "WingTrams$Chain" "forms") ∈ lw_all := lw_g (lw_at lw_m5 125 rfl) rfl
theorem q1196 : (Jvm.Cond.laysFinal "WingTrams$Chain" "WingTrams$Chain" "signs" "Ljava/lang/StringBuilder;") ∈ lw_all := lw_g (lw_at lw_m5 126 rfl) rfl
theorem q1197 : (Jvm.Cond.soleField "WingTrams$Chain" "signs") ∈ lw_all := lw_g (lw_at lw_m5 127 rfl) rfl
theorem q1198 : (Jvm.Cond.superclass "WingTrams$Chain" "java/lang/Object") ∈ lw_all := lw_g (lw_at lw_m5 128 rfl) rfl
theorem q1204 : (Jvm.Cond.instanceMethod ({ cls := "WingTrams$Chain", name := "add", desc := "(CLWingTrams$Form;)V" } : Jvm.MethodName)) ∈ lw_all := lw_g (lw_at lw_m5 134 rfl) rfl
theorem q1205 : (Jvm.Cond.selects "WingTrams$Chain" ({ cls := "WingTrams$Chain", name := "add", desc := "(CLWingTrams$Form;)V" } : Jvm.MethodName) ({ cls := "WingTrams$Chain", name := "add", desc := "(CLWingTrams$Form;)V" } : Jvm.MethodName)) ∈ lw_all := lw_g (lw_at lw_m5 135 rfl) rfl
theorem q1206 : (Jvm.Cond.code ({ cls := "WingTrams$Chain", name := "add", desc := "(CLWingTrams$Form;)V" } : Jvm.MethodName) prog_2_method_2_code (3 : Nat) (Option.none : Option Jvm.ClassFile.FieldType)) ∈ lw_all := lw_g (lw_at lw_m5 136 rfl) rfl
theorem q1207 : (Jvm.Cond.methodLink "WingTrams$Chain" (29 : Nat) ({ cls := "java/lang/StringBuilder", name := "append", desc := "(C)Ljava/lang/StringBuilder;" } : Jvm.MethodName)) ∈ lw_all := lw_g (lw_at lw_m5 137 rfl) rfl
theorem q1268 : (Jvm.Cond.instanceMethod ({ cls := "WingTrams$Chain", name := "plain", desc := "()LWingTrams$Form;" } : Jvm.MethodName)) ∈ lw_all := lw_g (lw_at lw_m5 198 rfl) rfl
theorem q1269 : (Jvm.Cond.selects "WingTrams$Chain" ({ cls := "WingTrams$Chain", name := "plain", desc := "()LWingTrams$Form;" } : Jvm.MethodName) ({ cls := "WingTrams$Chain", name := "plain", desc := "()LWingTrams$Form;" } : Jvm.MethodName)) ∈ lw_all := lw_g (lw_at lw_m5 199 rfl) rfl
theorem q1270 : (Jvm.Cond.code ({ cls := "WingTrams$Chain", name := "plain", desc := "()LWingTrams$Form;" } : Jvm.MethodName) prog_2_method_3_code (1 : Nat) (Option.some (Jvm.ClassFile.FieldType.object "WingTrams$Form"))) ∈ lw_all := lw_g (lw_at lw_m5 200 rfl) rfl
theorem q2283 : (Jvm.Cond.castable "WingTrams$Chain" "java/lang/Object") ∈ lw_tbl := lw_at lw_m10 13 rfl
theorem in_X7 : ∀ w ∈ wsX70, w ∈ lw_all := lw_in wsX70 [1194, 1196] (by decide +kernel) (by decide +kernel)
/-! WingTrams$Number -/
set_option maxRecDepth 100000
def RX8 : String := "WingTrams$Number"
def TX8 : u_T := fun k => match k with
  | _ => ("WingTrams$Number", "value", "I", true)
def tyX8 : Nat → FieldType := fun k => match k with
  | _ => .int
abbrev wsX80 : List Cond := u_ws RX8 TX8 1
theorem nmX8 : ∀ a, a < 1 → ∀ b, b < 1 → a ≠ b → (TX8 a).2.1 ≠ (TX8 b).2.1 := by decide +kernel
theorem tyX8_ok : ∀ k, k < 1 → parseFieldDescriptor (TX8 k).2.2.1 = some (tyX8 k) := by decide +kernel
abbrev cX8_of : ByteArray := prog_7_method_2_code
def yX8_of : MethodName := ⟨RX8, "of", "([I)I"⟩
theorem dX8_of_0 : decode cX8_of 0 = .ok (.aload_n 0, 1) := by decide +kernel
theorem dX8_of_1 : decode cX8_of 1 = .ok (.getfield 7, 3) := by decide +kernel
theorem dX8_of_4 : decode cX8_of 4 = .ok (.ireturn, 1) := by decide +kernel
abbrev cX8_init : ByteArray := prog_7_method_1_code
def yX8_init : MethodName := ⟨RX8, "<init>", "(I)V"⟩
def dkwX8_init_0 : List UInt8 := [42, 183, 0, 1, 42, 27, 181, 0, 7, 177]
abbrev dktX8_init_0 : List UInt8 := dkwX8_init_0 ++ []
theorem dksX8_init_0 : cX8_init.data.toList.drop 0 = dktX8_init_0 := by decide +kernel
theorem dX8_init_0 : decode cX8_init 0 = .ok (.aload_n 0, 1) := dk_42 (dk_at dksX8_init_0 0 rfl rfl)
theorem dX8_init_1 : decode cX8_init 1 = .ok (.invokespecial 1, 3) := dk_183 0 1 (dk_at dksX8_init_0 1 rfl rfl)
theorem dX8_init_4 : decode cX8_init 4 = .ok (.aload_n 0, 1) := dk_42 (dk_at dksX8_init_0 4 rfl rfl)
theorem dX8_init_5 : decode cX8_init 5 = .ok (.iload_n 1, 1) := dk_27 (dk_at dksX8_init_0 5 rfl rfl)
theorem dX8_init_6 : decode cX8_init 6 = .ok (.putfield 7, 3) := dk_181 0 7 (dk_at dksX8_init_0 6 rfl rfl)
theorem dX8_init_9 : decode cX8_init 9 = .ok (.return_, 1) := dk_177 (dk_at dksX8_init_0 9 rfl rfl)
theorem q138 : (Jvm.Cond.initialized "WingTrams$Number") ∈ lw_all := lw_g (lw_at lw_m1 28 rfl) rfl
theorem q372 : (Jvm.Cond.selects "WingTrams$Number" ({ cls := "java/lang/Object", name := "getClass", desc := "()Ljava/lang/Class;" } : Jvm.MethodName) ({ cls := "java/lang/Object", name := "getClass", desc := "()Ljava/lang/Class;" } : Jvm.MethodName)) ∈ lw_all := lw_g (lw_at lw_m2 22 rfl) rfl
theorem q592 : (Jvm.Cond.castable "WingTrams$Number" "WingTrams$Form") ∈ lw_tbl := lw_at lw_m3 2 rfl
theorem q593 : (Jvm.Cond.selects "WingTrams$Number" ({ cls := "WingTrams$Form", name := "of", desc := "([I)I" } : Jvm.MethodName) ({ cls := "WingTrams$Number", name := "of", desc := "([I)I" } : Jvm.MethodName)) ∈ lw_all := lw_g (lw_at lw_m3 3 rfl) rfl
theorem q594 : (Jvm.Cond.unhidden "WingTrams$Number" "of" "([I)I") ∈ lw_tbl := lw_at lw_m3 4 rfl
theorem q595 : (Jvm.Cond.instanceMethod ({ cls := "WingTrams$Number", name := "of", desc := "([I)I" } : Jvm.MethodName)) ∈ lw_all := lw_g (lw_at lw_m3 5 rfl) rfl
theorem q596 : (Jvm.Cond.publicMethod ({ cls := "WingTrams$Number", name := "of", desc := "([I)I" } : Jvm.MethodName)) ∈ lw_tbl := lw_at lw_m3 6 rfl
theorem q597 : (Jvm.Cond.code ({ cls := "WingTrams$Number", name := "of", desc := "([I)I" } : Jvm.MethodName) prog_7_method_2_code (2 : Nat) (Option.some Jvm.ClassFile.FieldType.int)) ∈ lw_all := lw_g (lw_at lw_m3 7 rfl) rfl
theorem q1130 : (Jvm.Cond.instantiable "WingTrams$Number" (1 : Nat)) ∈ lw_all := lw_g (lw_at lw_m5 60 rfl) rfl
theorem q1132 : (Jvm.Cond.instanceMethod ({ cls := "WingTrams$Number", name := "<init>", desc := "(I)V" } : Jvm.MethodName)) ∈ lw_all := lw_g (lw_at lw_m5 62 rfl) rfl
theorem q1133 : (Jvm.Cond.code ({ cls := "WingTrams$Number", name := "<init>", desc := "(I)V" } : Jvm.MethodName) prog_7_method_1_code (2 : Nat) (Option.none : Option Jvm.ClassFile.FieldType)) ∈ lw_all := lw_g (lw_at lw_m5 63 rfl) rfl
theorem q1134 : (Jvm.Cond.methodLink "WingTrams$Number" (1 : Nat) ({ cls := "java/lang/Object", name := "<init>", desc := "()V" } : Jvm.MethodName)) ∈ lw_all := lw_g (lw_at lw_m5 64 rfl) rfl
theorem q1135 : (Jvm.Cond.fieldLink "WingTrams$Number" (7 : Nat) "WingTrams$Number" "value" "I") ∈ lw_all := lw_g (lw_at lw_m5 65 rfl) rfl
theorem q1136 : (Jvm.Cond.laysFinal "WingTrams$Number" "WingTrams$Number" "value" "I") ∈ lw_all := lw_g (lw_at lw_m5 66 rfl) rfl
theorem q1137 : (Jvm.Cond.soleField "WingTrams$Number" "value") ∈ lw_all := lw_g (lw_at lw_m5 67 rfl) rfl
theorem q1138 : (Jvm.Cond.superclass "WingTrams$Number" "java/lang/Object") ∈ lw_all := lw_g (lw_at lw_m5 68 rfl) rfl
theorem q2284 : (Jvm.Cond.castable "WingTrams$Number" "java/lang/Object") ∈ lw_tbl := lw_at lw_m10 14 rfl
theorem in_X8 : ∀ w ∈ wsX80, w ∈ lw_all := lw_in wsX80 [1136] (by decide +kernel) (by decide +kernel)
/-! WingTrams$Value -/
set_option maxRecDepth 100000
def RX9 : String := "WingTrams$Value"
def TX9 : u_T := fun k => match k with
  | _ => ("WingTrams$Value", "which", "I", true)
def tyX9 : Nat → FieldType := fun k => match k with
  | _ => .int
abbrev wsX90 : List Cond := u_ws RX9 TX9 1
theorem nmX9 : ∀ a, a < 1 → ∀ b, b < 1 → a ≠ b → (TX9 a).2.1 ≠ (TX9 b).2.1 := by decide +kernel
theorem tyX9_ok : ∀ k, k < 1 → parseFieldDescriptor (TX9 k).2.2.1 = some (tyX9 k) := by decide +kernel
abbrev cX9_of : ByteArray := prog_11_method_2_code
def yX9_of : MethodName := ⟨RX9, "of", "([I)I"⟩
def dkwX9_of_0 : List UInt8 := [43, 42, 180, 0, 7, 46, 172]
abbrev dktX9_of_0 : List UInt8 := dkwX9_of_0 ++ []
theorem dksX9_of_0 : cX9_of.data.toList.drop 0 = dktX9_of_0 := by decide +kernel
theorem dX9_of_0 : decode cX9_of 0 = .ok (.aload_n 1, 1) := dk_43 (dk_at dksX9_of_0 0 rfl rfl)
theorem dX9_of_1 : decode cX9_of 1 = .ok (.aload_n 0, 1) := dk_42 (dk_at dksX9_of_0 1 rfl rfl)
theorem dX9_of_2 : decode cX9_of 2 = .ok (.getfield 7, 3) := dk_180 0 7 (dk_at dksX9_of_0 2 rfl rfl)
theorem dX9_of_5 : decode cX9_of 5 = .ok (.iaload, 1) := dk_46 (dk_at dksX9_of_0 5 rfl rfl)
theorem dX9_of_6 : decode cX9_of 6 = .ok (.ireturn, 1) := dk_172 (dk_at dksX9_of_0 6 rfl rfl)
abbrev cX9_init : ByteArray := prog_11_method_1_code
def yX9_init : MethodName := ⟨RX9, "<init>", "(I)V"⟩
def dkwX9_init_0 : List UInt8 := [42, 183, 0, 1, 42, 27, 181, 0, 7, 177]
abbrev dktX9_init_0 : List UInt8 := dkwX9_init_0 ++ []
theorem dksX9_init_0 : cX9_init.data.toList.drop 0 = dktX9_init_0 := by decide +kernel
theorem dX9_init_0 : decode cX9_init 0 = .ok (.aload_n 0, 1) := dk_42 (dk_at dksX9_init_0 0 rfl rfl)
theorem dX9_init_1 : decode cX9_init 1 = .ok (.invokespecial 1, 3) := dk_183 0 1 (dk_at dksX9_init_0 1 rfl rfl)
theorem dX9_init_4 : decode cX9_init 4 = .ok (.aload_n 0, 1) := dk_42 (dk_at dksX9_init_0 4 rfl rfl)
theorem dX9_init_5 : decode cX9_init 5 = .ok (.iload_n 1, 1) := dk_27 (dk_at dksX9_init_0 5 rfl rfl)
theorem dX9_init_6 : decode cX9_init 6 = .ok (.putfield 7, 3) := dk_181 0 7 (dk_at dksX9_init_0 6 rfl rfl)
theorem dX9_init_9 : decode cX9_init 9 = .ok (.return_, 1) := dk_177 (dk_at dksX9_init_0 9 rfl rfl)
theorem q139 : (Jvm.Cond.initialized "WingTrams$Value") ∈ lw_all := lw_g (lw_at lw_m1 29 rfl) rfl
theorem q376 : (Jvm.Cond.selects "WingTrams$Value" ({ cls := "java/lang/Object", name := "getClass", desc := "()Ljava/lang/Class;" } : Jvm.MethodName) ({ cls := "java/lang/Object", name := "getClass", desc := "()Ljava/lang/Class;" } : Jvm.MethodName)) ∈ lw_all := lw_g (lw_at lw_m2 26 rfl) rfl
theorem q598 : (Jvm.Cond.castable "WingTrams$Value" "WingTrams$Form") ∈ lw_tbl := lw_at lw_m3 8 rfl
theorem q599 : (Jvm.Cond.selects "WingTrams$Value" ({ cls := "WingTrams$Form", name := "of", desc := "([I)I" } : Jvm.MethodName) ({ cls := "WingTrams$Value", name := "of", desc := "([I)I" } : Jvm.MethodName)) ∈ lw_all := lw_g (lw_at lw_m3 9 rfl) rfl
theorem q600 : (Jvm.Cond.unhidden "WingTrams$Value" "of" "([I)I") ∈ lw_tbl := lw_at lw_m3 10 rfl
theorem q601 : (Jvm.Cond.instanceMethod ({ cls := "WingTrams$Value", name := "of", desc := "([I)I" } : Jvm.MethodName)) ∈ lw_all := lw_g (lw_at lw_m3 11 rfl) rfl
theorem q602 : (Jvm.Cond.publicMethod ({ cls := "WingTrams$Value", name := "of", desc := "([I)I" } : Jvm.MethodName)) ∈ lw_tbl := lw_at lw_m3 12 rfl
theorem q603 : (Jvm.Cond.code ({ cls := "WingTrams$Value", name := "of", desc := "([I)I" } : Jvm.MethodName) prog_11_method_2_code (2 : Nat) (Option.some Jvm.ClassFile.FieldType.int)) ∈ lw_all := lw_g (lw_at lw_m3 13 rfl) rfl
theorem q1147 : (Jvm.Cond.instantiable "WingTrams$Value" (1 : Nat)) ∈ lw_all := lw_g (lw_at lw_m5 77 rfl) rfl
theorem q1149 : (Jvm.Cond.instanceMethod ({ cls := "WingTrams$Value", name := "<init>", desc := "(I)V" } : Jvm.MethodName)) ∈ lw_all := lw_g (lw_at lw_m5 79 rfl) rfl
theorem q1150 : (Jvm.Cond.code ({ cls := "WingTrams$Value", name := "<init>", desc := "(I)V" } : Jvm.MethodName) prog_11_method_1_code (2 : Nat) (Option.none : Option Jvm.ClassFile.FieldType)) ∈ lw_all := lw_g (lw_at lw_m5 80 rfl) rfl
theorem q1151 : (Jvm.Cond.methodLink "WingTrams$Value" (1 : Nat) ({ cls := "java/lang/Object", name := "<init>", desc := "()V" } : Jvm.MethodName)) ∈ lw_all := lw_g (lw_at lw_m5 81 rfl) rfl
theorem q1152 : (Jvm.Cond.fieldLink "WingTrams$Value" (7 : Nat) "WingTrams$Value" "which" "I") ∈ lw_all := lw_g (lw_at lw_m5 82 rfl) rfl
theorem q1153 : (Jvm.Cond.laysFinal "WingTrams$Value" "WingTrams$Value" "which" "I") ∈ lw_all := lw_g (lw_at lw_m5 83 rfl) rfl
theorem q1154 : (Jvm.Cond.soleField "WingTrams$Value" "which") ∈ lw_all := lw_g (lw_at lw_m5 84 rfl) rfl
theorem q1155 : (Jvm.Cond.superclass "WingTrams$Value" "java/lang/Object") ∈ lw_all := lw_g (lw_at lw_m5 85 rfl) rfl
theorem q2285 : (Jvm.Cond.castable "WingTrams$Value" "java/lang/Object") ∈ lw_tbl := lw_at lw_m10 15 rfl
theorem in_X9 : ∀ w ∈ wsX90, w ∈ lw_all := lw_in wsX90 [1153] (by decide +kernel) (by decide +kernel)
/-! WingTrams$Not -/
set_option maxRecDepth 100000
def RX10 : String := "WingTrams$Not"
def TX10 : u_T := fun k => match k with
  | _ => ("WingTrams$Not", "form", "LWingTrams$Form;", true)
def tyX10 : Nat → FieldType := fun k => match k with
  | _ => .object "WingTrams$Form"
abbrev wsX100 : List Cond := u_ws RX10 TX10 1
theorem nmX10 : ∀ a, a < 1 → ∀ b, b < 1 → a ≠ b → (TX10 a).2.1 ≠ (TX10 b).2.1 := by decide +kernel
theorem tyX10_ok : ∀ k, k < 1 → parseFieldDescriptor (TX10 k).2.2.1 = some (tyX10 k) := by decide +kernel
abbrev cX10_of : ByteArray := prog_6_method_2_code
def yX10_of : MethodName := ⟨RX10, "of", "([I)I"⟩
def dkwX10_of_0 : List UInt8 := [42, 180, 0, 7, 43, 185, 0, 13, 2, 0, 154, 0, 7, 4, 167, 0, 4, 3, 172]
abbrev dktX10_of_0 : List UInt8 := dkwX10_of_0 ++ []
theorem dksX10_of_0 : cX10_of.data.toList.drop 0 = dktX10_of_0 := by decide +kernel
theorem dX10_of_0 : decode cX10_of 0 = .ok (.aload_n 0, 1) := dk_42 (dk_at dksX10_of_0 0 rfl rfl)
theorem dX10_of_1 : decode cX10_of 1 = .ok (.getfield 7, 3) := dk_180 0 7 (dk_at dksX10_of_0 1 rfl rfl)
theorem dX10_of_4 : decode cX10_of 4 = .ok (.aload_n 1, 1) := dk_43 (dk_at dksX10_of_0 4 rfl rfl)
theorem dX10_of_5 : decode cX10_of 5 = .ok (.invokeinterface 13 2, 5) := by decide +kernel
theorem dX10_of_10 : decode cX10_of 10 = .ok (.ifCond .ne 7, 3) := dk_154 0 7 (dk_at dksX10_of_0 10 rfl rfl)
theorem dX10_of_13 : decode cX10_of 13 = .ok (.iconst 1, 1) := dk_4 (dk_at dksX10_of_0 13 rfl rfl)
theorem dX10_of_14 : decode cX10_of 14 = .ok (.goto 4, 3) := dk_167 0 4 (dk_at dksX10_of_0 14 rfl rfl)
theorem dX10_of_17 : decode cX10_of 17 = .ok (.iconst 0, 1) := dk_3 (dk_at dksX10_of_0 17 rfl rfl)
theorem dX10_of_18 : decode cX10_of 18 = .ok (.ireturn, 1) := dk_172 (dk_at dksX10_of_0 18 rfl rfl)
abbrev cX10_init : ByteArray := prog_6_method_1_code
def yX10_init : MethodName := ⟨RX10, "<init>", "(LWingTrams$Form;)V"⟩
def dkwX10_init_0 : List UInt8 := [42, 183, 0, 1, 42, 43, 181, 0, 7, 177]
abbrev dktX10_init_0 : List UInt8 := dkwX10_init_0 ++ []
theorem dksX10_init_0 : cX10_init.data.toList.drop 0 = dktX10_init_0 := by decide +kernel
theorem dX10_init_0 : decode cX10_init 0 = .ok (.aload_n 0, 1) := dk_42 (dk_at dksX10_init_0 0 rfl rfl)
theorem dX10_init_1 : decode cX10_init 1 = .ok (.invokespecial 1, 3) := dk_183 0 1 (dk_at dksX10_init_0 1 rfl rfl)
theorem dX10_init_4 : decode cX10_init 4 = .ok (.aload_n 0, 1) := dk_42 (dk_at dksX10_init_0 4 rfl rfl)
theorem dX10_init_5 : decode cX10_init 5 = .ok (.aload_n 1, 1) := dk_43 (dk_at dksX10_init_0 5 rfl rfl)
theorem dX10_init_6 : decode cX10_init 6 = .ok (.putfield 7, 3) := dk_181 0 7 (dk_at dksX10_init_0 6 rfl rfl)
theorem dX10_init_9 : decode cX10_init 9 = .ok (.return_, 1) := dk_177 (dk_at dksX10_init_0 9 rfl rfl)
theorem q142 : (Jvm.Cond.initialized "WingTrams$Not") ∈ lw_all := lw_g (lw_at lw_m1 32 rfl) rfl
theorem q371 : (Jvm.Cond.selects "WingTrams$Not" ({ cls := "java/lang/Object", name := "getClass", desc := "()Ljava/lang/Class;" } : Jvm.MethodName) ({ cls := "java/lang/Object", name := "getClass", desc := "()Ljava/lang/Class;" } : Jvm.MethodName)) ∈ lw_all := lw_g (lw_at lw_m2 21 rfl) rfl
theorem q584 : (Jvm.Cond.castable "WingTrams$Not" "WingTrams$Form") ∈ lw_tbl := lw_at lw_m2 234 rfl
theorem q585 : (Jvm.Cond.selects "WingTrams$Not" ({ cls := "WingTrams$Form", name := "of", desc := "([I)I" } : Jvm.MethodName) ({ cls := "WingTrams$Not", name := "of", desc := "([I)I" } : Jvm.MethodName)) ∈ lw_all := lw_g (lw_at lw_m2 235 rfl) rfl
theorem q586 : (Jvm.Cond.unhidden "WingTrams$Not" "of" "([I)I") ∈ lw_tbl := lw_at lw_m2 236 rfl
theorem q587 : (Jvm.Cond.instanceMethod ({ cls := "WingTrams$Not", name := "of", desc := "([I)I" } : Jvm.MethodName)) ∈ lw_all := lw_g (lw_at lw_m2 237 rfl) rfl
theorem q588 : (Jvm.Cond.publicMethod ({ cls := "WingTrams$Not", name := "of", desc := "([I)I" } : Jvm.MethodName)) ∈ lw_tbl := lw_at lw_m2 238 rfl
theorem q589 : (Jvm.Cond.code ({ cls := "WingTrams$Not", name := "of", desc := "([I)I" } : Jvm.MethodName) prog_6_method_2_code (2 : Nat) (Option.some Jvm.ClassFile.FieldType.int)) ∈ lw_all := lw_g (lw_at lw_m2 239 rfl) rfl
theorem q590 : (Jvm.Cond.interfaceEntry "WingTrams$Not" (13 : Nat)) ∈ lw_tbl := lw_at lw_m3 0 rfl
theorem q591 : (Jvm.Cond.methodLink "WingTrams$Not" (13 : Nat) ({ cls := "WingTrams$Form", name := "of", desc := "([I)I" } : Jvm.MethodName)) ∈ lw_all := lw_g (lw_at lw_m3 1 rfl) rfl
theorem q1272 : (Jvm.Cond.instantiable "WingTrams$Not" (1 : Nat)) ∈ lw_all := lw_g (lw_at lw_m5 202 rfl) rfl
theorem q1274 : (Jvm.Cond.instanceMethod ({ cls := "WingTrams$Not", name := "<init>", desc := "(LWingTrams$Form;)V" } : Jvm.MethodName)) ∈ lw_all := lw_g (lw_at lw_m5 204 rfl) rfl
theorem q1275 : (Jvm.Cond.code ({ cls := "WingTrams$Not", name := "<init>", desc := "(LWingTrams$Form;)V" } : Jvm.MethodName) prog_6_method_1_code (2 : Nat) (Option.none : Option Jvm.ClassFile.FieldType)) ∈ lw_all := lw_g (lw_at lw_m5 205 rfl) rfl
theorem q1276 : (Jvm.Cond.methodLink "WingTrams$Not" (1 : Nat) ({ cls := "java/lang/Object", name := "<init>", desc := "()V" } : Jvm.MethodName)) ∈ lw_all := lw_g (lw_at lw_m5 206 rfl) rfl
theorem q1277 : (Jvm.Cond.fieldLink "WingTrams$Not" (7 : Nat) "WingTrams$Not" "form" "LWingTrams$Form;") ∈ lw_all := lw_g (lw_at lw_m5 207 rfl) rfl
theorem q1278 : (Jvm.Cond.laysFinal "WingTrams$Not" "WingTrams$Not" "form" "LWingTrams$Form;") ∈ lw_all := lw_g (lw_at lw_m5 208 rfl) rfl
theorem q1279 : (Jvm.Cond.soleField "WingTrams$Not" "form") ∈ lw_all := lw_g (lw_at lw_m5 209 rfl) rfl
theorem q1280 : (Jvm.Cond.superclass "WingTrams$Not" "java/lang/Object") ∈ lw_all := lw_g (lw_at lw_m5 210 rfl) rfl
theorem q2287 : (Jvm.Cond.castable "WingTrams$Not" "java/lang/Object") ∈ lw_tbl := lw_at lw_m10 17 rfl
theorem in_X10 : ∀ w ∈ wsX100, w ∈ lw_all := lw_in wsX100 [1278] (by decide +kernel) (by decide +kernel)
/-! WingTrams$Night -/
set_option maxRecDepth 100000
def RX11 : String := "WingTrams$Night"
def TX11 : u_T := fun k => match k with
  | 0 => ("WingTrams$Night", "rule", "I", false)
  | 1 => ("WingTrams$Night", "moon", "I", false)
  | 2 => ("WingTrams$Night", "nests", "I", false)
  | 3 => ("WingTrams$Night", "wet", "Z", false)
  | 4 => ("WingTrams$Night", "more", "[I", true)
  | 5 => ("WingTrams$Night", "mice", "[I", true)
  | 6 => ("WingTrams$Night", "caught", "[I", true)
  | 7 => ("WingTrams$Night", "next", "[I", true)
  | 8 => ("WingTrams$Night", "comes", "[[I", true)
  | 9 => ("WingTrams$Night", "leaves", "[[I", true)
  | 10 => ("WingTrams$Night", "soon", "[I", true)
  | _ => ("WingTrams$Night", "this$0", "LWingTrams;", true)
def tyX11 : Nat → FieldType := fun k => match k with
  | 0 => .int
  | 1 => .int
  | 2 => .int
  | 3 => .boolean
  | 4 => .array .int
  | 5 => .array .int
  | 6 => .array .int
  | 7 => .array .int
  | 8 => .array (.array .int)
  | 9 => .array (.array .int)
  | 10 => .array .int
  | _ => .object "WingTrams"
abbrev wsX110 : List Cond := u_ws RX11 TX11 12
theorem nmX11 : ∀ a, a < 12 → ∀ b, b < 12 → a ≠ b → (TX11 a).2.1 ≠ (TX11 b).2.1 := by decide +kernel
theorem tyX11_ok : ∀ k, k < 12 → parseFieldDescriptor (TX11 k).2.2.1 = some (tyX11 k) := by decide +kernel
abbrev cX11_init : ByteArray := prog_5_method_1_code
def yX11_init : MethodName := ⟨RX11, "<init>", "(LWingTrams;)V"⟩
def dkwX11_init_5 : List UInt8 := [181, 0, 62, 177]
abbrev dktX11_init_5 : List UInt8 := dkwX11_init_5 ++ []
def dkwX11_init_4 : List UInt8 := [197, 0, 54, 2, 181, 0, 56, 42, 8, 16, 8, 197, 0, 54, 2, 181, 0, 59, 42, 16, 10, 188, 10]
abbrev dktX11_init_4 : List UInt8 := dkwX11_init_4 ++ dktX11_init_5
def dkwX11_init_3 : List UInt8 := [181, 0, 45, 42, 8, 188, 10, 181, 0, 48, 42, 8, 188, 10, 181, 0, 51, 42, 8, 16, 8]
abbrev dktX11_init_3 : List UInt8 := dkwX11_init_3 ++ dktX11_init_4
def dkwX11_init_2 : List UInt8 := [180, 0, 3, 180, 0, 34, 181, 0, 38, 42, 16, 10, 188, 10, 181, 0, 41, 42, 16, 10, 188, 10]
abbrev dktX11_init_2 : List UInt8 := dkwX11_init_2 ++ dktX11_init_3
def dkwX11_init_1 : List UInt8 := [180, 0, 3, 180, 0, 22, 181, 0, 25, 42, 42, 180, 0, 3, 180, 0, 28, 181, 0, 31, 42, 42]
abbrev dktX11_init_1 : List UInt8 := dkwX11_init_1 ++ dktX11_init_2
def dkwX11_init_0 : List UInt8 := [42, 43, 181, 0, 3, 42, 183, 0, 9, 42, 42, 180, 0, 3, 180, 0, 15, 181, 0, 19, 42, 42]
abbrev dktX11_init_0 : List UInt8 := dkwX11_init_0 ++ dktX11_init_1
theorem dksX11_init_0 : cX11_init.data.toList.drop 0 = dktX11_init_0 := by decide +kernel
theorem dksX11_init_1 : cX11_init.data.toList.drop 22 = dktX11_init_1 := dk_seg dksX11_init_0 22 rfl rfl
theorem dksX11_init_2 : cX11_init.data.toList.drop 44 = dktX11_init_2 := dk_seg dksX11_init_1 22 rfl rfl
theorem dksX11_init_3 : cX11_init.data.toList.drop 66 = dktX11_init_3 := dk_seg dksX11_init_2 22 rfl rfl
theorem dksX11_init_4 : cX11_init.data.toList.drop 87 = dktX11_init_4 := dk_seg dksX11_init_3 21 rfl rfl
theorem dksX11_init_5 : cX11_init.data.toList.drop 110 = dktX11_init_5 := dk_seg dksX11_init_4 23 rfl rfl
theorem dX11_init_0 : decode cX11_init 0 = .ok (.aload_n 0, 1) := dk_42 (dk_at dksX11_init_0 0 rfl rfl)
theorem dX11_init_1 : decode cX11_init 1 = .ok (.aload_n 1, 1) := dk_43 (dk_at dksX11_init_0 1 rfl rfl)
theorem dX11_init_2 : decode cX11_init 2 = .ok (.putfield 3, 3) := dk_181 0 3 (dk_at dksX11_init_0 2 rfl rfl)
theorem dX11_init_5 : decode cX11_init 5 = .ok (.aload_n 0, 1) := dk_42 (dk_at dksX11_init_0 5 rfl rfl)
theorem dX11_init_6 : decode cX11_init 6 = .ok (.invokespecial 9, 3) := dk_183 0 9 (dk_at dksX11_init_0 6 rfl rfl)
theorem dX11_init_9 : decode cX11_init 9 = .ok (.aload_n 0, 1) := dk_42 (dk_at dksX11_init_0 9 rfl rfl)
theorem dX11_init_10 : decode cX11_init 10 = .ok (.aload_n 0, 1) := dk_42 (dk_at dksX11_init_0 10 rfl rfl)
theorem dX11_init_11 : decode cX11_init 11 = .ok (.getfield 3, 3) := dk_180 0 3 (dk_at dksX11_init_0 11 rfl rfl)
theorem dX11_init_14 : decode cX11_init 14 = .ok (.getfield 15, 3) := dk_180 0 15 (dk_at dksX11_init_0 14 rfl rfl)
theorem dX11_init_17 : decode cX11_init 17 = .ok (.putfield 19, 3) := dk_181 0 19 (dk_at dksX11_init_0 17 rfl rfl)
theorem dX11_init_20 : decode cX11_init 20 = .ok (.aload_n 0, 1) := dk_42 (dk_at dksX11_init_0 20 rfl rfl)
theorem dX11_init_21 : decode cX11_init 21 = .ok (.aload_n 0, 1) := dk_42 (dk_at dksX11_init_0 21 rfl rfl)
theorem dX11_init_22 : decode cX11_init 22 = .ok (.getfield 3, 3) := dk_180 0 3 (dk_at dksX11_init_1 0 rfl rfl)
theorem dX11_init_25 : decode cX11_init 25 = .ok (.getfield 22, 3) := dk_180 0 22 (dk_at dksX11_init_1 3 rfl rfl)
theorem dX11_init_28 : decode cX11_init 28 = .ok (.putfield 25, 3) := dk_181 0 25 (dk_at dksX11_init_1 6 rfl rfl)
theorem dX11_init_31 : decode cX11_init 31 = .ok (.aload_n 0, 1) := dk_42 (dk_at dksX11_init_1 9 rfl rfl)
theorem dX11_init_32 : decode cX11_init 32 = .ok (.aload_n 0, 1) := dk_42 (dk_at dksX11_init_1 10 rfl rfl)
theorem dX11_init_33 : decode cX11_init 33 = .ok (.getfield 3, 3) := dk_180 0 3 (dk_at dksX11_init_1 11 rfl rfl)
theorem dX11_init_36 : decode cX11_init 36 = .ok (.getfield 28, 3) := dk_180 0 28 (dk_at dksX11_init_1 14 rfl rfl)
theorem dX11_init_39 : decode cX11_init 39 = .ok (.putfield 31, 3) := dk_181 0 31 (dk_at dksX11_init_1 17 rfl rfl)
theorem dX11_init_42 : decode cX11_init 42 = .ok (.aload_n 0, 1) := dk_42 (dk_at dksX11_init_1 20 rfl rfl)
theorem dX11_init_43 : decode cX11_init 43 = .ok (.aload_n 0, 1) := dk_42 (dk_at dksX11_init_1 21 rfl rfl)
theorem dX11_init_44 : decode cX11_init 44 = .ok (.getfield 3, 3) := dk_180 0 3 (dk_at dksX11_init_2 0 rfl rfl)
theorem dX11_init_47 : decode cX11_init 47 = .ok (.getfield 34, 3) := dk_180 0 34 (dk_at dksX11_init_2 3 rfl rfl)
theorem dX11_init_50 : decode cX11_init 50 = .ok (.putfield 38, 3) := dk_181 0 38 (dk_at dksX11_init_2 6 rfl rfl)
theorem dX11_init_53 : decode cX11_init 53 = .ok (.aload_n 0, 1) := dk_42 (dk_at dksX11_init_2 9 rfl rfl)
theorem dX11_init_54 : decode cX11_init 54 = .ok (.bipush 10, 2) := dk_16 10 (dk_at dksX11_init_2 10 rfl rfl)
theorem dX11_init_56 : decode cX11_init 56 = .ok (.newarray .int, 2) := dk_188_10 (dk_at dksX11_init_2 12 rfl rfl)
theorem dX11_init_58 : decode cX11_init 58 = .ok (.putfield 41, 3) := dk_181 0 41 (dk_at dksX11_init_2 14 rfl rfl)
theorem dX11_init_61 : decode cX11_init 61 = .ok (.aload_n 0, 1) := dk_42 (dk_at dksX11_init_2 17 rfl rfl)
theorem dX11_init_62 : decode cX11_init 62 = .ok (.bipush 10, 2) := dk_16 10 (dk_at dksX11_init_2 18 rfl rfl)
theorem dX11_init_64 : decode cX11_init 64 = .ok (.newarray .int, 2) := dk_188_10 (dk_at dksX11_init_2 20 rfl rfl)
theorem dX11_init_66 : decode cX11_init 66 = .ok (.putfield 45, 3) := dk_181 0 45 (dk_at dksX11_init_3 0 rfl rfl)
theorem dX11_init_69 : decode cX11_init 69 = .ok (.aload_n 0, 1) := dk_42 (dk_at dksX11_init_3 3 rfl rfl)
theorem dX11_init_70 : decode cX11_init 70 = .ok (.iconst 5, 1) := dk_8 (dk_at dksX11_init_3 4 rfl rfl)
theorem dX11_init_71 : decode cX11_init 71 = .ok (.newarray .int, 2) := dk_188_10 (dk_at dksX11_init_3 5 rfl rfl)
theorem dX11_init_73 : decode cX11_init 73 = .ok (.putfield 48, 3) := dk_181 0 48 (dk_at dksX11_init_3 7 rfl rfl)
theorem dX11_init_76 : decode cX11_init 76 = .ok (.aload_n 0, 1) := dk_42 (dk_at dksX11_init_3 10 rfl rfl)
theorem dX11_init_77 : decode cX11_init 77 = .ok (.iconst 5, 1) := dk_8 (dk_at dksX11_init_3 11 rfl rfl)
theorem dX11_init_78 : decode cX11_init 78 = .ok (.newarray .int, 2) := dk_188_10 (dk_at dksX11_init_3 12 rfl rfl)
theorem dX11_init_80 : decode cX11_init 80 = .ok (.putfield 51, 3) := dk_181 0 51 (dk_at dksX11_init_3 14 rfl rfl)
theorem dX11_init_83 : decode cX11_init 83 = .ok (.aload_n 0, 1) := dk_42 (dk_at dksX11_init_3 17 rfl rfl)
theorem dX11_init_84 : decode cX11_init 84 = .ok (.iconst 5, 1) := dk_8 (dk_at dksX11_init_3 18 rfl rfl)
theorem dX11_init_85 : decode cX11_init 85 = .ok (.bipush 8, 2) := dk_16 8 (dk_at dksX11_init_3 19 rfl rfl)
theorem dX11_init_87 : decode cX11_init 87 = .ok (.multianewarray 54 2, 4) := by decide +kernel
theorem dX11_init_91 : decode cX11_init 91 = .ok (.putfield 56, 3) := dk_181 0 56 (dk_at dksX11_init_4 4 rfl rfl)
theorem dX11_init_94 : decode cX11_init 94 = .ok (.aload_n 0, 1) := dk_42 (dk_at dksX11_init_4 7 rfl rfl)
theorem dX11_init_95 : decode cX11_init 95 = .ok (.iconst 5, 1) := dk_8 (dk_at dksX11_init_4 8 rfl rfl)
theorem dX11_init_96 : decode cX11_init 96 = .ok (.bipush 8, 2) := dk_16 8 (dk_at dksX11_init_4 9 rfl rfl)
theorem dX11_init_98 : decode cX11_init 98 = .ok (.multianewarray 54 2, 4) := by decide +kernel
theorem dX11_init_102 : decode cX11_init 102 = .ok (.putfield 59, 3) := dk_181 0 59 (dk_at dksX11_init_4 15 rfl rfl)
theorem dX11_init_105 : decode cX11_init 105 = .ok (.aload_n 0, 1) := dk_42 (dk_at dksX11_init_4 18 rfl rfl)
theorem dX11_init_106 : decode cX11_init 106 = .ok (.bipush 10, 2) := dk_16 10 (dk_at dksX11_init_4 19 rfl rfl)
theorem dX11_init_108 : decode cX11_init 108 = .ok (.newarray .int, 2) := dk_188_10 (dk_at dksX11_init_4 21 rfl rfl)
theorem dX11_init_110 : decode cX11_init 110 = .ok (.putfield 62, 3) := dk_181 0 62 (dk_at dksX11_init_5 0 rfl rfl)
theorem dX11_init_113 : decode cX11_init 113 = .ok (.return_, 1) := dk_177 (dk_at dksX11_init_5 3 rfl rfl)
abbrev cX11_run : ByteArray := prog_5_method_7_code
def yX11_run : MethodName := ⟨RX11, "run", "()LWingTrams$Night;"⟩
def dkwX11_run_6 : List UInt8 := [182, 0, 145, 60, 167, 255, 241, 42, 176]
abbrev dktX11_run_6 : List UInt8 := dkwX11_run_6 ++ []
def dkwX11_run_5 : List UInt8 := [132, 1, 1, 167, 255, 190, 42, 182, 0, 145, 60, 27, 2, 159, 0, 16, 42, 27, 182, 0, 148, 42]
abbrev dktX11_run_5 : List UInt8 := dkwX11_run_5 ++ dktX11_run_6
def dkwX11_run_4 : List UInt8 := [180, 0, 3, 180, 0, 69, 180, 0, 118, 27, 185, 0, 97, 2, 0, 192, 0, 79, 180, 0, 142, 79]
abbrev dktX11_run_4 : List UInt8 := dkwX11_run_4 ++ dktX11_run_5
def dkwX11_run_3 : List UInt8 := [42, 180, 0, 51, 27, 3, 79, 42, 180, 0, 48, 27, 3, 79, 42, 180, 0, 56, 27, 50, 3, 42]
abbrev dktX11_run_3 : List UInt8 := dkwX11_run_3 ++ dktX11_run_4
def dkwX11_run_2 : List UInt8 := [167, 255, 212, 3, 60, 27, 42, 180, 0, 3, 180, 0, 69, 180, 0, 118, 185, 0, 131, 1, 0, 162, 0, 53]
abbrev dktX11_run_2 : List UInt8 := dkwX11_run_2 ++ dktX11_run_3
def dkwX11_run_1 : List UInt8 := [180, 0, 3, 180, 0, 69, 180, 0, 90, 27, 46, 42, 180, 0, 41, 27, 46, 96, 104, 79, 132, 1, 1]
abbrev dktX11_run_1 : List UInt8 := dkwX11_run_1 ++ dktX11_run_2
def dkwX11_run_0 : List UInt8 := [3, 60, 27, 42, 180, 0, 3, 180, 0, 69, 180, 0, 139, 162, 0, 36, 42, 180, 0, 45, 27, 5, 42]
abbrev dktX11_run_0 : List UInt8 := dkwX11_run_0 ++ dktX11_run_1
theorem dksX11_run_0 : cX11_run.data.toList.drop 0 = dktX11_run_0 := by decide +kernel
theorem dksX11_run_1 : cX11_run.data.toList.drop 23 = dktX11_run_1 := dk_seg dksX11_run_0 23 rfl rfl
theorem dksX11_run_2 : cX11_run.data.toList.drop 46 = dktX11_run_2 := dk_seg dksX11_run_1 23 rfl rfl
theorem dksX11_run_3 : cX11_run.data.toList.drop 70 = dktX11_run_3 := dk_seg dksX11_run_2 24 rfl rfl
theorem dksX11_run_4 : cX11_run.data.toList.drop 92 = dktX11_run_4 := dk_seg dksX11_run_3 22 rfl rfl
theorem dksX11_run_5 : cX11_run.data.toList.drop 114 = dktX11_run_5 := dk_seg dksX11_run_4 22 rfl rfl
theorem dksX11_run_6 : cX11_run.data.toList.drop 136 = dktX11_run_6 := dk_seg dksX11_run_5 22 rfl rfl
theorem dX11_run_0 : decode cX11_run 0 = .ok (.iconst 0, 1) := dk_3 (dk_at dksX11_run_0 0 rfl rfl)
theorem dX11_run_1 : decode cX11_run 1 = .ok (.istore_n 1, 1) := dk_60 (dk_at dksX11_run_0 1 rfl rfl)
theorem dX11_run_2 : decode cX11_run 2 = .ok (.iload_n 1, 1) := dk_27 (dk_at dksX11_run_0 2 rfl rfl)
theorem dX11_run_3 : decode cX11_run 3 = .ok (.aload_n 0, 1) := dk_42 (dk_at dksX11_run_0 3 rfl rfl)
theorem dX11_run_4 : decode cX11_run 4 = .ok (.getfield 3, 3) := dk_180 0 3 (dk_at dksX11_run_0 4 rfl rfl)
theorem dX11_run_7 : decode cX11_run 7 = .ok (.getfield 69, 3) := dk_180 0 69 (dk_at dksX11_run_0 7 rfl rfl)
theorem dX11_run_10 : decode cX11_run 10 = .ok (.getfield 139, 3) := dk_180 0 139 (dk_at dksX11_run_0 10 rfl rfl)
theorem dX11_run_13 : decode cX11_run 13 = .ok (.if_icmp .ge 36, 3) := dk_162 0 36 (dk_at dksX11_run_0 13 rfl rfl)
theorem dX11_run_16 : decode cX11_run 16 = .ok (.aload_n 0, 1) := dk_42 (dk_at dksX11_run_0 16 rfl rfl)
theorem dX11_run_17 : decode cX11_run 17 = .ok (.getfield 45, 3) := dk_180 0 45 (dk_at dksX11_run_0 17 rfl rfl)
theorem dX11_run_20 : decode cX11_run 20 = .ok (.iload_n 1, 1) := dk_27 (dk_at dksX11_run_0 20 rfl rfl)
theorem dX11_run_21 : decode cX11_run 21 = .ok (.iconst 2, 1) := dk_5 (dk_at dksX11_run_0 21 rfl rfl)
theorem dX11_run_22 : decode cX11_run 22 = .ok (.aload_n 0, 1) := dk_42 (dk_at dksX11_run_0 22 rfl rfl)
theorem dX11_run_23 : decode cX11_run 23 = .ok (.getfield 3, 3) := dk_180 0 3 (dk_at dksX11_run_1 0 rfl rfl)
theorem dX11_run_26 : decode cX11_run 26 = .ok (.getfield 69, 3) := dk_180 0 69 (dk_at dksX11_run_1 3 rfl rfl)
theorem dX11_run_29 : decode cX11_run 29 = .ok (.getfield 90, 3) := dk_180 0 90 (dk_at dksX11_run_1 6 rfl rfl)
theorem dX11_run_32 : decode cX11_run 32 = .ok (.iload_n 1, 1) := dk_27 (dk_at dksX11_run_1 9 rfl rfl)
theorem dX11_run_33 : decode cX11_run 33 = .ok (.iaload, 1) := dk_46 (dk_at dksX11_run_1 10 rfl rfl)
theorem dX11_run_34 : decode cX11_run 34 = .ok (.aload_n 0, 1) := dk_42 (dk_at dksX11_run_1 11 rfl rfl)
theorem dX11_run_35 : decode cX11_run 35 = .ok (.getfield 41, 3) := dk_180 0 41 (dk_at dksX11_run_1 12 rfl rfl)
theorem dX11_run_38 : decode cX11_run 38 = .ok (.iload_n 1, 1) := dk_27 (dk_at dksX11_run_1 15 rfl rfl)
theorem dX11_run_39 : decode cX11_run 39 = .ok (.iaload, 1) := dk_46 (dk_at dksX11_run_1 16 rfl rfl)
theorem dX11_run_40 : decode cX11_run 40 = .ok (.iadd, 1) := dk_96 (dk_at dksX11_run_1 17 rfl rfl)
theorem dX11_run_41 : decode cX11_run 41 = .ok (.imul, 1) := dk_104 (dk_at dksX11_run_1 18 rfl rfl)
theorem dX11_run_42 : decode cX11_run 42 = .ok (.iastore, 1) := dk_79 (dk_at dksX11_run_1 19 rfl rfl)
theorem dX11_run_43 : decode cX11_run 43 = .ok (.iinc 1 1, 3) := dk_132 1 1 (dk_at dksX11_run_1 20 rfl rfl)
theorem dX11_run_46 : decode cX11_run 46 = .ok (.goto (-44), 3) := dk_167 255 212 (dk_at dksX11_run_2 0 rfl rfl)
theorem dX11_run_49 : decode cX11_run 49 = .ok (.iconst 0, 1) := dk_3 (dk_at dksX11_run_2 3 rfl rfl)
theorem dX11_run_50 : decode cX11_run 50 = .ok (.istore_n 1, 1) := dk_60 (dk_at dksX11_run_2 4 rfl rfl)
theorem dX11_run_51 : decode cX11_run 51 = .ok (.iload_n 1, 1) := dk_27 (dk_at dksX11_run_2 5 rfl rfl)
theorem dX11_run_52 : decode cX11_run 52 = .ok (.aload_n 0, 1) := dk_42 (dk_at dksX11_run_2 6 rfl rfl)
theorem dX11_run_53 : decode cX11_run 53 = .ok (.getfield 3, 3) := dk_180 0 3 (dk_at dksX11_run_2 7 rfl rfl)
theorem dX11_run_56 : decode cX11_run 56 = .ok (.getfield 69, 3) := dk_180 0 69 (dk_at dksX11_run_2 10 rfl rfl)
theorem dX11_run_59 : decode cX11_run 59 = .ok (.getfield 118, 3) := dk_180 0 118 (dk_at dksX11_run_2 13 rfl rfl)
theorem dX11_run_62 : decode cX11_run 62 = .ok (.invokeinterface 131 1, 5) := by decide +kernel
theorem dX11_run_67 : decode cX11_run 67 = .ok (.if_icmp .ge 53, 3) := dk_162 0 53 (dk_at dksX11_run_2 21 rfl rfl)
theorem dX11_run_70 : decode cX11_run 70 = .ok (.aload_n 0, 1) := dk_42 (dk_at dksX11_run_3 0 rfl rfl)
theorem dX11_run_71 : decode cX11_run 71 = .ok (.getfield 51, 3) := dk_180 0 51 (dk_at dksX11_run_3 1 rfl rfl)
theorem dX11_run_74 : decode cX11_run 74 = .ok (.iload_n 1, 1) := dk_27 (dk_at dksX11_run_3 4 rfl rfl)
theorem dX11_run_75 : decode cX11_run 75 = .ok (.iconst 0, 1) := dk_3 (dk_at dksX11_run_3 5 rfl rfl)
theorem dX11_run_76 : decode cX11_run 76 = .ok (.iastore, 1) := dk_79 (dk_at dksX11_run_3 6 rfl rfl)
theorem dX11_run_77 : decode cX11_run 77 = .ok (.aload_n 0, 1) := dk_42 (dk_at dksX11_run_3 7 rfl rfl)
theorem dX11_run_78 : decode cX11_run 78 = .ok (.getfield 48, 3) := dk_180 0 48 (dk_at dksX11_run_3 8 rfl rfl)
theorem dX11_run_81 : decode cX11_run 81 = .ok (.iload_n 1, 1) := dk_27 (dk_at dksX11_run_3 11 rfl rfl)
theorem dX11_run_82 : decode cX11_run 82 = .ok (.iconst 0, 1) := dk_3 (dk_at dksX11_run_3 12 rfl rfl)
theorem dX11_run_83 : decode cX11_run 83 = .ok (.iastore, 1) := dk_79 (dk_at dksX11_run_3 13 rfl rfl)
theorem dX11_run_84 : decode cX11_run 84 = .ok (.aload_n 0, 1) := dk_42 (dk_at dksX11_run_3 14 rfl rfl)
theorem dX11_run_85 : decode cX11_run 85 = .ok (.getfield 56, 3) := dk_180 0 56 (dk_at dksX11_run_3 15 rfl rfl)
theorem dX11_run_88 : decode cX11_run 88 = .ok (.iload_n 1, 1) := dk_27 (dk_at dksX11_run_3 18 rfl rfl)
theorem dX11_run_89 : decode cX11_run 89 = .ok (.aaload, 1) := dk_50 (dk_at dksX11_run_3 19 rfl rfl)
theorem dX11_run_90 : decode cX11_run 90 = .ok (.iconst 0, 1) := dk_3 (dk_at dksX11_run_3 20 rfl rfl)
theorem dX11_run_91 : decode cX11_run 91 = .ok (.aload_n 0, 1) := dk_42 (dk_at dksX11_run_3 21 rfl rfl)
theorem dX11_run_92 : decode cX11_run 92 = .ok (.getfield 3, 3) := dk_180 0 3 (dk_at dksX11_run_4 0 rfl rfl)
theorem dX11_run_95 : decode cX11_run 95 = .ok (.getfield 69, 3) := dk_180 0 69 (dk_at dksX11_run_4 3 rfl rfl)
theorem dX11_run_98 : decode cX11_run 98 = .ok (.getfield 118, 3) := dk_180 0 118 (dk_at dksX11_run_4 6 rfl rfl)
theorem dX11_run_101 : decode cX11_run 101 = .ok (.iload_n 1, 1) := dk_27 (dk_at dksX11_run_4 9 rfl rfl)
theorem dX11_run_102 : decode cX11_run 102 = .ok (.invokeinterface 97 2, 5) := by decide +kernel
theorem dX11_run_107 : decode cX11_run 107 = .ok (.checkcast 79, 3) := dk_192 0 79 (dk_at dksX11_run_4 15 rfl rfl)
theorem dX11_run_110 : decode cX11_run 110 = .ok (.getfield 142, 3) := dk_180 0 142 (dk_at dksX11_run_4 18 rfl rfl)
theorem dX11_run_113 : decode cX11_run 113 = .ok (.iastore, 1) := dk_79 (dk_at dksX11_run_4 21 rfl rfl)
theorem dX11_run_114 : decode cX11_run 114 = .ok (.iinc 1 1, 3) := dk_132 1 1 (dk_at dksX11_run_5 0 rfl rfl)
theorem dX11_run_117 : decode cX11_run 117 = .ok (.goto (-66), 3) := dk_167 255 190 (dk_at dksX11_run_5 3 rfl rfl)
theorem dX11_run_120 : decode cX11_run 120 = .ok (.aload_n 0, 1) := dk_42 (dk_at dksX11_run_5 6 rfl rfl)
theorem dX11_run_121 : decode cX11_run 121 = .ok (.invokevirtual 145, 3) := dk_182 0 145 (dk_at dksX11_run_5 7 rfl rfl)
theorem dX11_run_124 : decode cX11_run 124 = .ok (.istore_n 1, 1) := dk_60 (dk_at dksX11_run_5 10 rfl rfl)
theorem dX11_run_125 : decode cX11_run 125 = .ok (.iload_n 1, 1) := dk_27 (dk_at dksX11_run_5 11 rfl rfl)
theorem dX11_run_126 : decode cX11_run 126 = .ok (.iconst (-1), 1) := dk_2 (dk_at dksX11_run_5 12 rfl rfl)
theorem dX11_run_127 : decode cX11_run 127 = .ok (.if_icmp .eq 16, 3) := dk_159 0 16 (dk_at dksX11_run_5 13 rfl rfl)
theorem dX11_run_130 : decode cX11_run 130 = .ok (.aload_n 0, 1) := dk_42 (dk_at dksX11_run_5 16 rfl rfl)
theorem dX11_run_131 : decode cX11_run 131 = .ok (.iload_n 1, 1) := dk_27 (dk_at dksX11_run_5 17 rfl rfl)
theorem dX11_run_132 : decode cX11_run 132 = .ok (.invokevirtual 148, 3) := dk_182 0 148 (dk_at dksX11_run_5 18 rfl rfl)
theorem dX11_run_135 : decode cX11_run 135 = .ok (.aload_n 0, 1) := dk_42 (dk_at dksX11_run_5 21 rfl rfl)
theorem dX11_run_136 : decode cX11_run 136 = .ok (.invokevirtual 145, 3) := dk_182 0 145 (dk_at dksX11_run_6 0 rfl rfl)
theorem dX11_run_139 : decode cX11_run 139 = .ok (.istore_n 1, 1) := dk_60 (dk_at dksX11_run_6 3 rfl rfl)
theorem dX11_run_140 : decode cX11_run 140 = .ok (.goto (-15), 3) := dk_167 255 241 (dk_at dksX11_run_6 4 rfl rfl)
theorem dX11_run_143 : decode cX11_run 143 = .ok (.aload_n 0, 1) := dk_42 (dk_at dksX11_run_6 7 rfl rfl)
theorem dX11_run_144 : decode cX11_run 144 = .ok (.areturn, 1) := dk_176 (dk_at dksX11_run_6 8 rfl rfl)
abbrev cX11_first : ByteArray := prog_5_method_6_code
def yX11_first : MethodName := ⟨RX11, "first", "()I"⟩
def dkwX11_first_4 : List UInt8 := [46, 162, 0, 5, 28, 60, 132, 2, 1, 167, 255, 156, 27, 172]
abbrev dktX11_first_4 : List UInt8 := dkwX11_first_4 ++ []
def dkwX11_first_3 : List UInt8 := [180, 0, 56, 28, 50, 42, 180, 0, 51, 28, 46, 46, 42, 180, 0, 56, 27, 50, 42, 180, 0, 51, 27, 46]
abbrev dktX11_first_3 : List UInt8 := dkwX11_first_3 ++ dktX11_first_4
def dkwX11_first_2 : List UInt8 := [185, 0, 97, 2, 0, 192, 0, 79, 182, 0, 138, 160, 0, 6, 167, 0, 39, 27, 2, 159, 0, 32, 42]
abbrev dktX11_first_2 : List UInt8 := dkwX11_first_2 ++ dktX11_first_3
def dkwX11_first_1 : List UInt8 := [28, 182, 0, 135, 153, 0, 73, 42, 180, 0, 51, 28, 46, 42, 180, 0, 3, 180, 0, 69, 180, 0, 118, 28]
abbrev dktX11_first_1 : List UInt8 := dkwX11_first_1 ++ dktX11_first_2
def dkwX11_first_0 : List UInt8 := [2, 60, 3, 61, 28, 42, 180, 0, 3, 180, 0, 69, 180, 0, 118, 185, 0, 131, 1, 0, 162, 0, 87, 42]
abbrev dktX11_first_0 : List UInt8 := dkwX11_first_0 ++ dktX11_first_1
theorem dksX11_first_0 : cX11_first.data.toList.drop 0 = dktX11_first_0 := by decide +kernel
theorem dksX11_first_1 : cX11_first.data.toList.drop 24 = dktX11_first_1 := dk_seg dksX11_first_0 24 rfl rfl
theorem dksX11_first_2 : cX11_first.data.toList.drop 48 = dktX11_first_2 := dk_seg dksX11_first_1 24 rfl rfl
theorem dksX11_first_3 : cX11_first.data.toList.drop 71 = dktX11_first_3 := dk_seg dksX11_first_2 23 rfl rfl
theorem dksX11_first_4 : cX11_first.data.toList.drop 95 = dktX11_first_4 := dk_seg dksX11_first_3 24 rfl rfl
theorem dX11_first_0 : decode cX11_first 0 = .ok (.iconst (-1), 1) := dk_2 (dk_at dksX11_first_0 0 rfl rfl)
theorem dX11_first_1 : decode cX11_first 1 = .ok (.istore_n 1, 1) := dk_60 (dk_at dksX11_first_0 1 rfl rfl)
theorem dX11_first_2 : decode cX11_first 2 = .ok (.iconst 0, 1) := dk_3 (dk_at dksX11_first_0 2 rfl rfl)
theorem dX11_first_3 : decode cX11_first 3 = .ok (.istore_n 2, 1) := dk_61 (dk_at dksX11_first_0 3 rfl rfl)
theorem dX11_first_4 : decode cX11_first 4 = .ok (.iload_n 2, 1) := dk_28 (dk_at dksX11_first_0 4 rfl rfl)
theorem dX11_first_5 : decode cX11_first 5 = .ok (.aload_n 0, 1) := dk_42 (dk_at dksX11_first_0 5 rfl rfl)
theorem dX11_first_6 : decode cX11_first 6 = .ok (.getfield 3, 3) := dk_180 0 3 (dk_at dksX11_first_0 6 rfl rfl)
theorem dX11_first_9 : decode cX11_first 9 = .ok (.getfield 69, 3) := dk_180 0 69 (dk_at dksX11_first_0 9 rfl rfl)
theorem dX11_first_12 : decode cX11_first 12 = .ok (.getfield 118, 3) := dk_180 0 118 (dk_at dksX11_first_0 12 rfl rfl)
theorem dX11_first_15 : decode cX11_first 15 = .ok (.invokeinterface 131 1, 5) := by decide +kernel
theorem dX11_first_20 : decode cX11_first 20 = .ok (.if_icmp .ge 87, 3) := dk_162 0 87 (dk_at dksX11_first_0 20 rfl rfl)
theorem dX11_first_23 : decode cX11_first 23 = .ok (.aload_n 0, 1) := dk_42 (dk_at dksX11_first_0 23 rfl rfl)
theorem dX11_first_24 : decode cX11_first 24 = .ok (.iload_n 2, 1) := dk_28 (dk_at dksX11_first_1 0 rfl rfl)
theorem dX11_first_25 : decode cX11_first 25 = .ok (.invokevirtual 135, 3) := dk_182 0 135 (dk_at dksX11_first_1 1 rfl rfl)
theorem dX11_first_28 : decode cX11_first 28 = .ok (.ifCond .eq 73, 3) := dk_153 0 73 (dk_at dksX11_first_1 4 rfl rfl)
theorem dX11_first_31 : decode cX11_first 31 = .ok (.aload_n 0, 1) := dk_42 (dk_at dksX11_first_1 7 rfl rfl)
theorem dX11_first_32 : decode cX11_first 32 = .ok (.getfield 51, 3) := dk_180 0 51 (dk_at dksX11_first_1 8 rfl rfl)
theorem dX11_first_35 : decode cX11_first 35 = .ok (.iload_n 2, 1) := dk_28 (dk_at dksX11_first_1 11 rfl rfl)
theorem dX11_first_36 : decode cX11_first 36 = .ok (.iaload, 1) := dk_46 (dk_at dksX11_first_1 12 rfl rfl)
theorem dX11_first_37 : decode cX11_first 37 = .ok (.aload_n 0, 1) := dk_42 (dk_at dksX11_first_1 13 rfl rfl)
theorem dX11_first_38 : decode cX11_first 38 = .ok (.getfield 3, 3) := dk_180 0 3 (dk_at dksX11_first_1 14 rfl rfl)
theorem dX11_first_41 : decode cX11_first 41 = .ok (.getfield 69, 3) := dk_180 0 69 (dk_at dksX11_first_1 17 rfl rfl)
theorem dX11_first_44 : decode cX11_first 44 = .ok (.getfield 118, 3) := dk_180 0 118 (dk_at dksX11_first_1 20 rfl rfl)
theorem dX11_first_47 : decode cX11_first 47 = .ok (.iload_n 2, 1) := dk_28 (dk_at dksX11_first_1 23 rfl rfl)
theorem dX11_first_48 : decode cX11_first 48 = .ok (.invokeinterface 97 2, 5) := by decide +kernel
theorem dX11_first_53 : decode cX11_first 53 = .ok (.checkcast 79, 3) := dk_192 0 79 (dk_at dksX11_first_2 5 rfl rfl)
theorem dX11_first_56 : decode cX11_first 56 = .ok (.invokevirtual 138, 3) := dk_182 0 138 (dk_at dksX11_first_2 8 rfl rfl)
theorem dX11_first_59 : decode cX11_first 59 = .ok (.if_icmp .ne 6, 3) := dk_160 0 6 (dk_at dksX11_first_2 11 rfl rfl)
theorem dX11_first_62 : decode cX11_first 62 = .ok (.goto 39, 3) := dk_167 0 39 (dk_at dksX11_first_2 14 rfl rfl)
theorem dX11_first_65 : decode cX11_first 65 = .ok (.iload_n 1, 1) := dk_27 (dk_at dksX11_first_2 17 rfl rfl)
theorem dX11_first_66 : decode cX11_first 66 = .ok (.iconst (-1), 1) := dk_2 (dk_at dksX11_first_2 18 rfl rfl)
theorem dX11_first_67 : decode cX11_first 67 = .ok (.if_icmp .eq 32, 3) := dk_159 0 32 (dk_at dksX11_first_2 19 rfl rfl)
theorem dX11_first_70 : decode cX11_first 70 = .ok (.aload_n 0, 1) := dk_42 (dk_at dksX11_first_2 22 rfl rfl)
theorem dX11_first_71 : decode cX11_first 71 = .ok (.getfield 56, 3) := dk_180 0 56 (dk_at dksX11_first_3 0 rfl rfl)
theorem dX11_first_74 : decode cX11_first 74 = .ok (.iload_n 2, 1) := dk_28 (dk_at dksX11_first_3 3 rfl rfl)
theorem dX11_first_75 : decode cX11_first 75 = .ok (.aaload, 1) := dk_50 (dk_at dksX11_first_3 4 rfl rfl)
theorem dX11_first_76 : decode cX11_first 76 = .ok (.aload_n 0, 1) := dk_42 (dk_at dksX11_first_3 5 rfl rfl)
theorem dX11_first_77 : decode cX11_first 77 = .ok (.getfield 51, 3) := dk_180 0 51 (dk_at dksX11_first_3 6 rfl rfl)
theorem dX11_first_80 : decode cX11_first 80 = .ok (.iload_n 2, 1) := dk_28 (dk_at dksX11_first_3 9 rfl rfl)
theorem dX11_first_81 : decode cX11_first 81 = .ok (.iaload, 1) := dk_46 (dk_at dksX11_first_3 10 rfl rfl)
theorem dX11_first_82 : decode cX11_first 82 = .ok (.iaload, 1) := dk_46 (dk_at dksX11_first_3 11 rfl rfl)
theorem dX11_first_83 : decode cX11_first 83 = .ok (.aload_n 0, 1) := dk_42 (dk_at dksX11_first_3 12 rfl rfl)
theorem dX11_first_84 : decode cX11_first 84 = .ok (.getfield 56, 3) := dk_180 0 56 (dk_at dksX11_first_3 13 rfl rfl)
theorem dX11_first_87 : decode cX11_first 87 = .ok (.iload_n 1, 1) := dk_27 (dk_at dksX11_first_3 16 rfl rfl)
theorem dX11_first_88 : decode cX11_first 88 = .ok (.aaload, 1) := dk_50 (dk_at dksX11_first_3 17 rfl rfl)
theorem dX11_first_89 : decode cX11_first 89 = .ok (.aload_n 0, 1) := dk_42 (dk_at dksX11_first_3 18 rfl rfl)
theorem dX11_first_90 : decode cX11_first 90 = .ok (.getfield 51, 3) := dk_180 0 51 (dk_at dksX11_first_3 19 rfl rfl)
theorem dX11_first_93 : decode cX11_first 93 = .ok (.iload_n 1, 1) := dk_27 (dk_at dksX11_first_3 22 rfl rfl)
theorem dX11_first_94 : decode cX11_first 94 = .ok (.iaload, 1) := dk_46 (dk_at dksX11_first_3 23 rfl rfl)
theorem dX11_first_95 : decode cX11_first 95 = .ok (.iaload, 1) := dk_46 (dk_at dksX11_first_4 0 rfl rfl)
theorem dX11_first_96 : decode cX11_first 96 = .ok (.if_icmp .ge 5, 3) := dk_162 0 5 (dk_at dksX11_first_4 1 rfl rfl)
theorem dX11_first_99 : decode cX11_first 99 = .ok (.iload_n 2, 1) := dk_28 (dk_at dksX11_first_4 4 rfl rfl)
theorem dX11_first_100 : decode cX11_first 100 = .ok (.istore_n 1, 1) := dk_60 (dk_at dksX11_first_4 5 rfl rfl)
theorem dX11_first_101 : decode cX11_first 101 = .ok (.iinc 2 1, 3) := dk_132 2 1 (dk_at dksX11_first_4 6 rfl rfl)
theorem dX11_first_104 : decode cX11_first 104 = .ok (.goto (-100), 3) := dk_167 255 156 (dk_at dksX11_first_4 9 rfl rfl)
theorem dX11_first_107 : decode cX11_first 107 = .ok (.iload_n 1, 1) := dk_27 (dk_at dksX11_first_4 12 rfl rfl)
theorem dX11_first_108 : decode cX11_first 108 = .ok (.ireturn, 1) := dk_172 (dk_at dksX11_first_4 13 rfl rfl)
abbrev cX11_isOut : ByteArray := prog_5_method_2_code
def yX11_isOut : MethodName := ⟨RX11, "isOut", "(I)Z"⟩
def dkwX11_isOut_0 : List UInt8 := [42, 180, 0, 31, 27, 184, 0, 65, 154, 0, 7, 4, 167, 0, 4, 3, 172]
abbrev dktX11_isOut_0 : List UInt8 := dkwX11_isOut_0 ++ []
theorem dksX11_isOut_0 : cX11_isOut.data.toList.drop 0 = dktX11_isOut_0 := by decide +kernel
theorem dX11_isOut_0 : decode cX11_isOut 0 = .ok (.aload_n 0, 1) := dk_42 (dk_at dksX11_isOut_0 0 rfl rfl)
theorem dX11_isOut_1 : decode cX11_isOut 1 = .ok (.getfield 31, 3) := dk_180 0 31 (dk_at dksX11_isOut_0 1 rfl rfl)
theorem dX11_isOut_4 : decode cX11_isOut 4 = .ok (.iload_n 1, 1) := dk_27 (dk_at dksX11_isOut_0 4 rfl rfl)
theorem dX11_isOut_5 : decode cX11_isOut 5 = .ok (.invokestatic 65, 3) := dk_184 0 65 (dk_at dksX11_isOut_0 5 rfl rfl)
theorem dX11_isOut_8 : decode cX11_isOut 8 = .ok (.ifCond .ne 7, 3) := dk_154 0 7 (dk_at dksX11_isOut_0 8 rfl rfl)
theorem dX11_isOut_11 : decode cX11_isOut 11 = .ok (.iconst 1, 1) := dk_4 (dk_at dksX11_isOut_0 11 rfl rfl)
theorem dX11_isOut_12 : decode cX11_isOut 12 = .ok (.goto 4, 3) := dk_167 0 4 (dk_at dksX11_isOut_0 12 rfl rfl)
theorem dX11_isOut_15 : decode cX11_isOut 15 = .ok (.iconst 0, 1) := dk_3 (dk_at dksX11_isOut_0 15 rfl rfl)
theorem dX11_isOut_16 : decode cX11_isOut 16 = .ok (.ireturn, 1) := dk_172 (dk_at dksX11_isOut_0 16 rfl rfl)
abbrev cX11_come : ByteArray := prog_5_method_5_code
def yX11_come : MethodName := ⟨RX11, "come", "(I)V"⟩
def dkwX11_come_6 : List UInt8 := [44, 29, 4, 96, 182, 0, 83, 182, 0, 128, 96, 79, 177]
abbrev dktX11_come_6 : List UInt8 := dkwX11_come_6 ++ []
def dkwX11_come_5 : List UInt8 := [154, 0, 36, 42, 180, 0, 56, 27, 50, 29, 4, 96, 21, 4, 21, 5, 96, 42, 44, 44, 29, 182, 0, 83]
abbrev dktX11_come_5 : List UInt8 := dkwX11_come_5 ++ dktX11_come_6
def dkwX11_come_4 : List UInt8 := [29, 21, 4, 21, 5, 96, 79, 42, 180, 0, 51, 27, 92, 46, 4, 96, 79, 44, 29, 182, 0, 124]
abbrev dktX11_come_4 : List UInt8 := dkwX11_come_4 ++ dktX11_come_5
def dkwX11_come_3 : List UInt8 := [182, 0, 83, 92, 46, 4, 100, 79, 42, 180, 0, 48, 27, 92, 46, 4, 96, 79, 42, 180, 0, 59, 27, 50]
abbrev dktX11_come_3 : List UInt8 := dkwX11_come_3 ++ dktX11_come_4
def dkwX11_come_2 : List UInt8 := [21, 5, 158, 0, 40, 42, 180, 0, 45, 44, 29, 182, 0, 83, 46, 158, 0, 27, 42, 180, 0, 45, 44, 29]
abbrev dktX11_come_2 : List UInt8 := dkwX11_come_2 ++ dktX11_come_3
def dkwX11_come_1 : List UInt8 := [27, 46, 62, 42, 180, 0, 56, 27, 50, 29, 46, 54, 4, 42, 44, 29, 21, 4, 182, 0, 121, 54, 5]
abbrev dktX11_come_1 : List UInt8 := dkwX11_come_1 ++ dktX11_come_2
def dkwX11_come_0 : List UInt8 := [42, 180, 0, 3, 180, 0, 69, 180, 0, 118, 27, 185, 0, 97, 2, 0, 192, 0, 79, 77, 42, 180, 0, 51]
abbrev dktX11_come_0 : List UInt8 := dkwX11_come_0 ++ dktX11_come_1
theorem dksX11_come_0 : cX11_come.data.toList.drop 0 = dktX11_come_0 := by decide +kernel
theorem dksX11_come_1 : cX11_come.data.toList.drop 24 = dktX11_come_1 := dk_seg dksX11_come_0 24 rfl rfl
theorem dksX11_come_2 : cX11_come.data.toList.drop 47 = dktX11_come_2 := dk_seg dksX11_come_1 23 rfl rfl
theorem dksX11_come_3 : cX11_come.data.toList.drop 71 = dktX11_come_3 := dk_seg dksX11_come_2 24 rfl rfl
theorem dksX11_come_4 : cX11_come.data.toList.drop 95 = dktX11_come_4 := dk_seg dksX11_come_3 24 rfl rfl
theorem dksX11_come_5 : cX11_come.data.toList.drop 117 = dktX11_come_5 := dk_seg dksX11_come_4 22 rfl rfl
theorem dksX11_come_6 : cX11_come.data.toList.drop 141 = dktX11_come_6 := dk_seg dksX11_come_5 24 rfl rfl
theorem dX11_come_0 : decode cX11_come 0 = .ok (.aload_n 0, 1) := dk_42 (dk_at dksX11_come_0 0 rfl rfl)
theorem dX11_come_1 : decode cX11_come 1 = .ok (.getfield 3, 3) := dk_180 0 3 (dk_at dksX11_come_0 1 rfl rfl)
theorem dX11_come_4 : decode cX11_come 4 = .ok (.getfield 69, 3) := dk_180 0 69 (dk_at dksX11_come_0 4 rfl rfl)
theorem dX11_come_7 : decode cX11_come 7 = .ok (.getfield 118, 3) := dk_180 0 118 (dk_at dksX11_come_0 7 rfl rfl)
theorem dX11_come_10 : decode cX11_come 10 = .ok (.iload_n 1, 1) := dk_27 (dk_at dksX11_come_0 10 rfl rfl)
theorem dX11_come_11 : decode cX11_come 11 = .ok (.invokeinterface 97 2, 5) := by decide +kernel
theorem dX11_come_16 : decode cX11_come 16 = .ok (.checkcast 79, 3) := dk_192 0 79 (dk_at dksX11_come_0 16 rfl rfl)
theorem dX11_come_19 : decode cX11_come 19 = .ok (.astore_n 2, 1) := dk_77 (dk_at dksX11_come_0 19 rfl rfl)
theorem dX11_come_20 : decode cX11_come 20 = .ok (.aload_n 0, 1) := dk_42 (dk_at dksX11_come_0 20 rfl rfl)
theorem dX11_come_21 : decode cX11_come 21 = .ok (.getfield 51, 3) := dk_180 0 51 (dk_at dksX11_come_0 21 rfl rfl)
theorem dX11_come_24 : decode cX11_come 24 = .ok (.iload_n 1, 1) := dk_27 (dk_at dksX11_come_1 0 rfl rfl)
theorem dX11_come_25 : decode cX11_come 25 = .ok (.iaload, 1) := dk_46 (dk_at dksX11_come_1 1 rfl rfl)
theorem dX11_come_26 : decode cX11_come 26 = .ok (.istore_n 3, 1) := dk_62 (dk_at dksX11_come_1 2 rfl rfl)
theorem dX11_come_27 : decode cX11_come 27 = .ok (.aload_n 0, 1) := dk_42 (dk_at dksX11_come_1 3 rfl rfl)
theorem dX11_come_28 : decode cX11_come 28 = .ok (.getfield 56, 3) := dk_180 0 56 (dk_at dksX11_come_1 4 rfl rfl)
theorem dX11_come_31 : decode cX11_come 31 = .ok (.iload_n 1, 1) := dk_27 (dk_at dksX11_come_1 7 rfl rfl)
theorem dX11_come_32 : decode cX11_come 32 = .ok (.aaload, 1) := dk_50 (dk_at dksX11_come_1 8 rfl rfl)
theorem dX11_come_33 : decode cX11_come 33 = .ok (.iload_n 3, 1) := dk_29 (dk_at dksX11_come_1 9 rfl rfl)
theorem dX11_come_34 : decode cX11_come 34 = .ok (.iaload, 1) := dk_46 (dk_at dksX11_come_1 10 rfl rfl)
theorem dX11_come_35 : decode cX11_come 35 = .ok (.istore 4, 2) := dk_54 4 (dk_at dksX11_come_1 11 rfl rfl)
theorem dX11_come_37 : decode cX11_come 37 = .ok (.aload_n 0, 1) := dk_42 (dk_at dksX11_come_1 13 rfl rfl)
theorem dX11_come_38 : decode cX11_come 38 = .ok (.aload_n 2, 1) := dk_44 (dk_at dksX11_come_1 14 rfl rfl)
theorem dX11_come_39 : decode cX11_come 39 = .ok (.iload_n 3, 1) := dk_29 (dk_at dksX11_come_1 15 rfl rfl)
theorem dX11_come_40 : decode cX11_come 40 = .ok (.iload 4, 2) := dk_21 4 (dk_at dksX11_come_1 16 rfl rfl)
theorem dX11_come_42 : decode cX11_come 42 = .ok (.invokevirtual 121, 3) := dk_182 0 121 (dk_at dksX11_come_1 18 rfl rfl)
theorem dX11_come_45 : decode cX11_come 45 = .ok (.istore 5, 2) := dk_54 5 (dk_at dksX11_come_1 21 rfl rfl)
theorem dX11_come_47 : decode cX11_come 47 = .ok (.iload 5, 2) := dk_21 5 (dk_at dksX11_come_2 0 rfl rfl)
theorem dX11_come_49 : decode cX11_come 49 = .ok (.ifCond .le 40, 3) := dk_158 0 40 (dk_at dksX11_come_2 2 rfl rfl)
theorem dX11_come_52 : decode cX11_come 52 = .ok (.aload_n 0, 1) := dk_42 (dk_at dksX11_come_2 5 rfl rfl)
theorem dX11_come_53 : decode cX11_come 53 = .ok (.getfield 45, 3) := dk_180 0 45 (dk_at dksX11_come_2 6 rfl rfl)
theorem dX11_come_56 : decode cX11_come 56 = .ok (.aload_n 2, 1) := dk_44 (dk_at dksX11_come_2 9 rfl rfl)
theorem dX11_come_57 : decode cX11_come 57 = .ok (.iload_n 3, 1) := dk_29 (dk_at dksX11_come_2 10 rfl rfl)
theorem dX11_come_58 : decode cX11_come 58 = .ok (.invokevirtual 83, 3) := dk_182 0 83 (dk_at dksX11_come_2 11 rfl rfl)
theorem dX11_come_61 : decode cX11_come 61 = .ok (.iaload, 1) := dk_46 (dk_at dksX11_come_2 14 rfl rfl)
theorem dX11_come_62 : decode cX11_come 62 = .ok (.ifCond .le 27, 3) := dk_158 0 27 (dk_at dksX11_come_2 15 rfl rfl)
theorem dX11_come_65 : decode cX11_come 65 = .ok (.aload_n 0, 1) := dk_42 (dk_at dksX11_come_2 18 rfl rfl)
theorem dX11_come_66 : decode cX11_come 66 = .ok (.getfield 45, 3) := dk_180 0 45 (dk_at dksX11_come_2 19 rfl rfl)
theorem dX11_come_69 : decode cX11_come 69 = .ok (.aload_n 2, 1) := dk_44 (dk_at dksX11_come_2 22 rfl rfl)
theorem dX11_come_70 : decode cX11_come 70 = .ok (.iload_n 3, 1) := dk_29 (dk_at dksX11_come_2 23 rfl rfl)
theorem dX11_come_71 : decode cX11_come 71 = .ok (.invokevirtual 83, 3) := dk_182 0 83 (dk_at dksX11_come_3 0 rfl rfl)
theorem dX11_come_74 : decode cX11_come 74 = .ok (.dup2, 1) := dk_92 (dk_at dksX11_come_3 3 rfl rfl)
theorem dX11_come_75 : decode cX11_come 75 = .ok (.iaload, 1) := dk_46 (dk_at dksX11_come_3 4 rfl rfl)
theorem dX11_come_76 : decode cX11_come 76 = .ok (.iconst 1, 1) := dk_4 (dk_at dksX11_come_3 5 rfl rfl)
theorem dX11_come_77 : decode cX11_come 77 = .ok (.isub, 1) := dk_100 (dk_at dksX11_come_3 6 rfl rfl)
theorem dX11_come_78 : decode cX11_come 78 = .ok (.iastore, 1) := dk_79 (dk_at dksX11_come_3 7 rfl rfl)
theorem dX11_come_79 : decode cX11_come 79 = .ok (.aload_n 0, 1) := dk_42 (dk_at dksX11_come_3 8 rfl rfl)
theorem dX11_come_80 : decode cX11_come 80 = .ok (.getfield 48, 3) := dk_180 0 48 (dk_at dksX11_come_3 9 rfl rfl)
theorem dX11_come_83 : decode cX11_come 83 = .ok (.iload_n 1, 1) := dk_27 (dk_at dksX11_come_3 12 rfl rfl)
theorem dX11_come_84 : decode cX11_come 84 = .ok (.dup2, 1) := dk_92 (dk_at dksX11_come_3 13 rfl rfl)
theorem dX11_come_85 : decode cX11_come 85 = .ok (.iaload, 1) := dk_46 (dk_at dksX11_come_3 14 rfl rfl)
theorem dX11_come_86 : decode cX11_come 86 = .ok (.iconst 1, 1) := dk_4 (dk_at dksX11_come_3 15 rfl rfl)
theorem dX11_come_87 : decode cX11_come 87 = .ok (.iadd, 1) := dk_96 (dk_at dksX11_come_3 16 rfl rfl)
theorem dX11_come_88 : decode cX11_come 88 = .ok (.iastore, 1) := dk_79 (dk_at dksX11_come_3 17 rfl rfl)
theorem dX11_come_89 : decode cX11_come 89 = .ok (.aload_n 0, 1) := dk_42 (dk_at dksX11_come_3 18 rfl rfl)
theorem dX11_come_90 : decode cX11_come 90 = .ok (.getfield 59, 3) := dk_180 0 59 (dk_at dksX11_come_3 19 rfl rfl)
theorem dX11_come_93 : decode cX11_come 93 = .ok (.iload_n 1, 1) := dk_27 (dk_at dksX11_come_3 22 rfl rfl)
theorem dX11_come_94 : decode cX11_come 94 = .ok (.aaload, 1) := dk_50 (dk_at dksX11_come_3 23 rfl rfl)
theorem dX11_come_95 : decode cX11_come 95 = .ok (.iload_n 3, 1) := dk_29 (dk_at dksX11_come_4 0 rfl rfl)
theorem dX11_come_96 : decode cX11_come 96 = .ok (.iload 4, 2) := dk_21 4 (dk_at dksX11_come_4 1 rfl rfl)
theorem dX11_come_98 : decode cX11_come 98 = .ok (.iload 5, 2) := dk_21 5 (dk_at dksX11_come_4 3 rfl rfl)
theorem dX11_come_100 : decode cX11_come 100 = .ok (.iadd, 1) := dk_96 (dk_at dksX11_come_4 5 rfl rfl)
theorem dX11_come_101 : decode cX11_come 101 = .ok (.iastore, 1) := dk_79 (dk_at dksX11_come_4 6 rfl rfl)
theorem dX11_come_102 : decode cX11_come 102 = .ok (.aload_n 0, 1) := dk_42 (dk_at dksX11_come_4 7 rfl rfl)
theorem dX11_come_103 : decode cX11_come 103 = .ok (.getfield 51, 3) := dk_180 0 51 (dk_at dksX11_come_4 8 rfl rfl)
theorem dX11_come_106 : decode cX11_come 106 = .ok (.iload_n 1, 1) := dk_27 (dk_at dksX11_come_4 11 rfl rfl)
theorem dX11_come_107 : decode cX11_come 107 = .ok (.dup2, 1) := dk_92 (dk_at dksX11_come_4 12 rfl rfl)
theorem dX11_come_108 : decode cX11_come 108 = .ok (.iaload, 1) := dk_46 (dk_at dksX11_come_4 13 rfl rfl)
theorem dX11_come_109 : decode cX11_come 109 = .ok (.iconst 1, 1) := dk_4 (dk_at dksX11_come_4 14 rfl rfl)
theorem dX11_come_110 : decode cX11_come 110 = .ok (.iadd, 1) := dk_96 (dk_at dksX11_come_4 15 rfl rfl)
theorem dX11_come_111 : decode cX11_come 111 = .ok (.iastore, 1) := dk_79 (dk_at dksX11_come_4 16 rfl rfl)
theorem dX11_come_112 : decode cX11_come 112 = .ok (.aload_n 2, 1) := dk_44 (dk_at dksX11_come_4 17 rfl rfl)
theorem dX11_come_113 : decode cX11_come 113 = .ok (.iload_n 3, 1) := dk_29 (dk_at dksX11_come_4 18 rfl rfl)
theorem dX11_come_114 : decode cX11_come 114 = .ok (.invokevirtual 124, 3) := dk_182 0 124 (dk_at dksX11_come_4 19 rfl rfl)
theorem dX11_come_117 : decode cX11_come 117 = .ok (.ifCond .ne 36, 3) := dk_154 0 36 (dk_at dksX11_come_5 0 rfl rfl)
theorem dX11_come_120 : decode cX11_come 120 = .ok (.aload_n 0, 1) := dk_42 (dk_at dksX11_come_5 3 rfl rfl)
theorem dX11_come_121 : decode cX11_come 121 = .ok (.getfield 56, 3) := dk_180 0 56 (dk_at dksX11_come_5 4 rfl rfl)
theorem dX11_come_124 : decode cX11_come 124 = .ok (.iload_n 1, 1) := dk_27 (dk_at dksX11_come_5 7 rfl rfl)
theorem dX11_come_125 : decode cX11_come 125 = .ok (.aaload, 1) := dk_50 (dk_at dksX11_come_5 8 rfl rfl)
theorem dX11_come_126 : decode cX11_come 126 = .ok (.iload_n 3, 1) := dk_29 (dk_at dksX11_come_5 9 rfl rfl)
theorem dX11_come_127 : decode cX11_come 127 = .ok (.iconst 1, 1) := dk_4 (dk_at dksX11_come_5 10 rfl rfl)
theorem dX11_come_128 : decode cX11_come 128 = .ok (.iadd, 1) := dk_96 (dk_at dksX11_come_5 11 rfl rfl)
theorem dX11_come_129 : decode cX11_come 129 = .ok (.iload 4, 2) := dk_21 4 (dk_at dksX11_come_5 12 rfl rfl)
theorem dX11_come_131 : decode cX11_come 131 = .ok (.iload 5, 2) := dk_21 5 (dk_at dksX11_come_5 14 rfl rfl)
theorem dX11_come_133 : decode cX11_come 133 = .ok (.iadd, 1) := dk_96 (dk_at dksX11_come_5 16 rfl rfl)
theorem dX11_come_134 : decode cX11_come 134 = .ok (.aload_n 0, 1) := dk_42 (dk_at dksX11_come_5 17 rfl rfl)
theorem dX11_come_135 : decode cX11_come 135 = .ok (.aload_n 2, 1) := dk_44 (dk_at dksX11_come_5 18 rfl rfl)
theorem dX11_come_136 : decode cX11_come 136 = .ok (.aload_n 2, 1) := dk_44 (dk_at dksX11_come_5 19 rfl rfl)
theorem dX11_come_137 : decode cX11_come 137 = .ok (.iload_n 3, 1) := dk_29 (dk_at dksX11_come_5 20 rfl rfl)
theorem dX11_come_138 : decode cX11_come 138 = .ok (.invokevirtual 83, 3) := dk_182 0 83 (dk_at dksX11_come_5 21 rfl rfl)
theorem dX11_come_141 : decode cX11_come 141 = .ok (.aload_n 2, 1) := dk_44 (dk_at dksX11_come_6 0 rfl rfl)
theorem dX11_come_142 : decode cX11_come 142 = .ok (.iload_n 3, 1) := dk_29 (dk_at dksX11_come_6 1 rfl rfl)
theorem dX11_come_143 : decode cX11_come 143 = .ok (.iconst 1, 1) := dk_4 (dk_at dksX11_come_6 2 rfl rfl)
theorem dX11_come_144 : decode cX11_come 144 = .ok (.iadd, 1) := dk_96 (dk_at dksX11_come_6 3 rfl rfl)
theorem dX11_come_145 : decode cX11_come 145 = .ok (.invokevirtual 83, 3) := dk_182 0 83 (dk_at dksX11_come_6 4 rfl rfl)
theorem dX11_come_148 : decode cX11_come 148 = .ok (.invokevirtual 128, 3) := dk_182 0 128 (dk_at dksX11_come_6 7 rfl rfl)
theorem dX11_come_151 : decode cX11_come 151 = .ok (.iadd, 1) := dk_96 (dk_at dksX11_come_6 10 rfl rfl)
theorem dX11_come_152 : decode cX11_come 152 = .ok (.iastore, 1) := dk_79 (dk_at dksX11_come_6 11 rfl rfl)
theorem dX11_come_153 : decode cX11_come 153 = .ok (.return_, 1) := dk_177 (dk_at dksX11_come_6 12 rfl rfl)
abbrev cX11_hunts : ByteArray := prog_5_method_4_code
def yX11_hunts : MethodName := ⟨RX11, "hunts", "(LWingTrams$Owl;II)I"⟩
def dkwX11_hunts_8 : List UInt8 := [184, 0, 109, 184, 0, 115, 172]
abbrev dktX11_hunts_8 : List UInt8 := dkwX11_hunts_8 ++ []
def dkwX11_hunts_7 : List UInt8 := [180, 0, 19, 185, 0, 97, 2, 0, 192, 0, 103, 42, 180, 0, 3, 180, 0, 87, 185, 0, 105, 2, 0]
abbrev dktX11_hunts_7 : List UInt8 := dkwX11_hunts_7 ++ dktX11_hunts_8
def dkwX11_hunts_6 : List UInt8 := [180, 0, 87, 16, 6, 29, 16, 60, 108, 79, 3, 16, 30, 42, 180, 0, 3, 180, 0, 69, 180, 0, 93, 42]
abbrev dktX11_hunts_6 : List UInt8 := dkwX11_hunts_6 ++ dktX11_hunts_7
def dkwX11_hunts_5 : List UInt8 := [180, 0, 3, 180, 0, 87, 8, 42, 180, 0, 38, 153, 0, 7, 4, 167, 0, 4, 3, 79, 42, 180, 0, 3]
abbrev dktX11_hunts_5 : List UInt8 := dkwX11_hunts_5 ++ dktX11_hunts_6
def dkwX11_hunts_4 : List UInt8 := [180, 0, 3, 180, 0, 87, 6, 28, 79, 42, 180, 0, 3, 180, 0, 87, 7, 42, 180, 0, 25, 79, 42]
abbrev dktX11_hunts_4 : List UInt8 := dkwX11_hunts_4 ++ dktX11_hunts_5
def dkwX11_hunts_3 : List UInt8 := [180, 0, 41, 21, 4, 46, 96, 79, 42, 180, 0, 3, 180, 0, 87, 5, 43, 180, 0, 78, 79, 42]
abbrev dktX11_hunts_3 : List UInt8 := dkwX11_hunts_3 ++ dktX11_hunts_4
def dkwX11_hunts_2 : List UInt8 := [79, 42, 180, 0, 3, 180, 0, 87, 4, 42, 180, 0, 3, 180, 0, 69, 180, 0, 90, 21, 4, 46, 42]
abbrev dktX11_hunts_2 : List UInt8 := dkwX11_hunts_2 ++ dktX11_hunts_3
def dkwX11_hunts_1 : List UInt8 := [158, 0, 7, 6, 167, 0, 4, 5, 172, 42, 180, 0, 3, 180, 0, 87, 3, 42, 180, 0, 45, 21, 4, 46]
abbrev dktX11_hunts_1 : List UInt8 := dkwX11_hunts_1 ++ dktX11_hunts_2
def dkwX11_hunts_0 : List UInt8 := [43, 28, 182, 0, 83, 54, 4, 42, 180, 0, 19, 2, 160, 0, 19, 42, 180, 0, 45, 21, 4, 46]
abbrev dktX11_hunts_0 : List UInt8 := dkwX11_hunts_0 ++ dktX11_hunts_1
theorem dksX11_hunts_0 : cX11_hunts.data.toList.drop 0 = dktX11_hunts_0 := by decide +kernel
theorem dksX11_hunts_1 : cX11_hunts.data.toList.drop 22 = dktX11_hunts_1 := dk_seg dksX11_hunts_0 22 rfl rfl
theorem dksX11_hunts_2 : cX11_hunts.data.toList.drop 46 = dktX11_hunts_2 := dk_seg dksX11_hunts_1 24 rfl rfl
theorem dksX11_hunts_3 : cX11_hunts.data.toList.drop 69 = dktX11_hunts_3 := dk_seg dksX11_hunts_2 23 rfl rfl
theorem dksX11_hunts_4 : cX11_hunts.data.toList.drop 91 = dktX11_hunts_4 := dk_seg dksX11_hunts_3 22 rfl rfl
theorem dksX11_hunts_5 : cX11_hunts.data.toList.drop 114 = dktX11_hunts_5 := dk_seg dksX11_hunts_4 23 rfl rfl
theorem dksX11_hunts_6 : cX11_hunts.data.toList.drop 138 = dktX11_hunts_6 := dk_seg dksX11_hunts_5 24 rfl rfl
theorem dksX11_hunts_7 : cX11_hunts.data.toList.drop 162 = dktX11_hunts_7 := dk_seg dksX11_hunts_6 24 rfl rfl
theorem dksX11_hunts_8 : cX11_hunts.data.toList.drop 185 = dktX11_hunts_8 := dk_seg dksX11_hunts_7 23 rfl rfl
theorem dX11_hunts_0 : decode cX11_hunts 0 = .ok (.aload_n 1, 1) := dk_43 (dk_at dksX11_hunts_0 0 rfl rfl)
theorem dX11_hunts_1 : decode cX11_hunts 1 = .ok (.iload_n 2, 1) := dk_28 (dk_at dksX11_hunts_0 1 rfl rfl)
theorem dX11_hunts_2 : decode cX11_hunts 2 = .ok (.invokevirtual 83, 3) := dk_182 0 83 (dk_at dksX11_hunts_0 2 rfl rfl)
theorem dX11_hunts_5 : decode cX11_hunts 5 = .ok (.istore 4, 2) := dk_54 4 (dk_at dksX11_hunts_0 5 rfl rfl)
theorem dX11_hunts_7 : decode cX11_hunts 7 = .ok (.aload_n 0, 1) := dk_42 (dk_at dksX11_hunts_0 7 rfl rfl)
theorem dX11_hunts_8 : decode cX11_hunts 8 = .ok (.getfield 19, 3) := dk_180 0 19 (dk_at dksX11_hunts_0 8 rfl rfl)
theorem dX11_hunts_11 : decode cX11_hunts 11 = .ok (.iconst (-1), 1) := dk_2 (dk_at dksX11_hunts_0 11 rfl rfl)
theorem dX11_hunts_12 : decode cX11_hunts 12 = .ok (.if_icmp .ne 19, 3) := dk_160 0 19 (dk_at dksX11_hunts_0 12 rfl rfl)
theorem dX11_hunts_15 : decode cX11_hunts 15 = .ok (.aload_n 0, 1) := dk_42 (dk_at dksX11_hunts_0 15 rfl rfl)
theorem dX11_hunts_16 : decode cX11_hunts 16 = .ok (.getfield 45, 3) := dk_180 0 45 (dk_at dksX11_hunts_0 16 rfl rfl)
theorem dX11_hunts_19 : decode cX11_hunts 19 = .ok (.iload 4, 2) := dk_21 4 (dk_at dksX11_hunts_0 19 rfl rfl)
theorem dX11_hunts_21 : decode cX11_hunts 21 = .ok (.iaload, 1) := dk_46 (dk_at dksX11_hunts_0 21 rfl rfl)
theorem dX11_hunts_22 : decode cX11_hunts 22 = .ok (.ifCond .le 7, 3) := dk_158 0 7 (dk_at dksX11_hunts_1 0 rfl rfl)
theorem dX11_hunts_25 : decode cX11_hunts 25 = .ok (.iconst 3, 1) := dk_6 (dk_at dksX11_hunts_1 3 rfl rfl)
theorem dX11_hunts_26 : decode cX11_hunts 26 = .ok (.goto 4, 3) := dk_167 0 4 (dk_at dksX11_hunts_1 4 rfl rfl)
theorem dX11_hunts_29 : decode cX11_hunts 29 = .ok (.iconst 2, 1) := dk_5 (dk_at dksX11_hunts_1 7 rfl rfl)
theorem dX11_hunts_30 : decode cX11_hunts 30 = .ok (.ireturn, 1) := dk_172 (dk_at dksX11_hunts_1 8 rfl rfl)
theorem dX11_hunts_31 : decode cX11_hunts 31 = .ok (.aload_n 0, 1) := dk_42 (dk_at dksX11_hunts_1 9 rfl rfl)
theorem dX11_hunts_32 : decode cX11_hunts 32 = .ok (.getfield 3, 3) := dk_180 0 3 (dk_at dksX11_hunts_1 10 rfl rfl)
theorem dX11_hunts_35 : decode cX11_hunts 35 = .ok (.getfield 87, 3) := dk_180 0 87 (dk_at dksX11_hunts_1 13 rfl rfl)
theorem dX11_hunts_38 : decode cX11_hunts 38 = .ok (.iconst 0, 1) := dk_3 (dk_at dksX11_hunts_1 16 rfl rfl)
theorem dX11_hunts_39 : decode cX11_hunts 39 = .ok (.aload_n 0, 1) := dk_42 (dk_at dksX11_hunts_1 17 rfl rfl)
theorem dX11_hunts_40 : decode cX11_hunts 40 = .ok (.getfield 45, 3) := dk_180 0 45 (dk_at dksX11_hunts_1 18 rfl rfl)
theorem dX11_hunts_43 : decode cX11_hunts 43 = .ok (.iload 4, 2) := dk_21 4 (dk_at dksX11_hunts_1 21 rfl rfl)
theorem dX11_hunts_45 : decode cX11_hunts 45 = .ok (.iaload, 1) := dk_46 (dk_at dksX11_hunts_1 23 rfl rfl)
theorem dX11_hunts_46 : decode cX11_hunts 46 = .ok (.iastore, 1) := dk_79 (dk_at dksX11_hunts_2 0 rfl rfl)
theorem dX11_hunts_47 : decode cX11_hunts 47 = .ok (.aload_n 0, 1) := dk_42 (dk_at dksX11_hunts_2 1 rfl rfl)
theorem dX11_hunts_48 : decode cX11_hunts 48 = .ok (.getfield 3, 3) := dk_180 0 3 (dk_at dksX11_hunts_2 2 rfl rfl)
theorem dX11_hunts_51 : decode cX11_hunts 51 = .ok (.getfield 87, 3) := dk_180 0 87 (dk_at dksX11_hunts_2 5 rfl rfl)
theorem dX11_hunts_54 : decode cX11_hunts 54 = .ok (.iconst 1, 1) := dk_4 (dk_at dksX11_hunts_2 8 rfl rfl)
theorem dX11_hunts_55 : decode cX11_hunts 55 = .ok (.aload_n 0, 1) := dk_42 (dk_at dksX11_hunts_2 9 rfl rfl)
theorem dX11_hunts_56 : decode cX11_hunts 56 = .ok (.getfield 3, 3) := dk_180 0 3 (dk_at dksX11_hunts_2 10 rfl rfl)
theorem dX11_hunts_59 : decode cX11_hunts 59 = .ok (.getfield 69, 3) := dk_180 0 69 (dk_at dksX11_hunts_2 13 rfl rfl)
theorem dX11_hunts_62 : decode cX11_hunts 62 = .ok (.getfield 90, 3) := dk_180 0 90 (dk_at dksX11_hunts_2 16 rfl rfl)
theorem dX11_hunts_65 : decode cX11_hunts 65 = .ok (.iload 4, 2) := dk_21 4 (dk_at dksX11_hunts_2 19 rfl rfl)
theorem dX11_hunts_67 : decode cX11_hunts 67 = .ok (.iaload, 1) := dk_46 (dk_at dksX11_hunts_2 21 rfl rfl)
theorem dX11_hunts_68 : decode cX11_hunts 68 = .ok (.aload_n 0, 1) := dk_42 (dk_at dksX11_hunts_2 22 rfl rfl)
theorem dX11_hunts_69 : decode cX11_hunts 69 = .ok (.getfield 41, 3) := dk_180 0 41 (dk_at dksX11_hunts_3 0 rfl rfl)
theorem dX11_hunts_72 : decode cX11_hunts 72 = .ok (.iload 4, 2) := dk_21 4 (dk_at dksX11_hunts_3 3 rfl rfl)
theorem dX11_hunts_74 : decode cX11_hunts 74 = .ok (.iaload, 1) := dk_46 (dk_at dksX11_hunts_3 5 rfl rfl)
theorem dX11_hunts_75 : decode cX11_hunts 75 = .ok (.iadd, 1) := dk_96 (dk_at dksX11_hunts_3 6 rfl rfl)
theorem dX11_hunts_76 : decode cX11_hunts 76 = .ok (.iastore, 1) := dk_79 (dk_at dksX11_hunts_3 7 rfl rfl)
theorem dX11_hunts_77 : decode cX11_hunts 77 = .ok (.aload_n 0, 1) := dk_42 (dk_at dksX11_hunts_3 8 rfl rfl)
theorem dX11_hunts_78 : decode cX11_hunts 78 = .ok (.getfield 3, 3) := dk_180 0 3 (dk_at dksX11_hunts_3 9 rfl rfl)
theorem dX11_hunts_81 : decode cX11_hunts 81 = .ok (.getfield 87, 3) := dk_180 0 87 (dk_at dksX11_hunts_3 12 rfl rfl)
theorem dX11_hunts_84 : decode cX11_hunts 84 = .ok (.iconst 2, 1) := dk_5 (dk_at dksX11_hunts_3 15 rfl rfl)
theorem dX11_hunts_85 : decode cX11_hunts 85 = .ok (.aload_n 1, 1) := dk_43 (dk_at dksX11_hunts_3 16 rfl rfl)
theorem dX11_hunts_86 : decode cX11_hunts 86 = .ok (.getfield 78, 3) := dk_180 0 78 (dk_at dksX11_hunts_3 17 rfl rfl)
theorem dX11_hunts_89 : decode cX11_hunts 89 = .ok (.iastore, 1) := dk_79 (dk_at dksX11_hunts_3 20 rfl rfl)
theorem dX11_hunts_90 : decode cX11_hunts 90 = .ok (.aload_n 0, 1) := dk_42 (dk_at dksX11_hunts_3 21 rfl rfl)
theorem dX11_hunts_91 : decode cX11_hunts 91 = .ok (.getfield 3, 3) := dk_180 0 3 (dk_at dksX11_hunts_4 0 rfl rfl)
theorem dX11_hunts_94 : decode cX11_hunts 94 = .ok (.getfield 87, 3) := dk_180 0 87 (dk_at dksX11_hunts_4 3 rfl rfl)
theorem dX11_hunts_97 : decode cX11_hunts 97 = .ok (.iconst 3, 1) := dk_6 (dk_at dksX11_hunts_4 6 rfl rfl)
theorem dX11_hunts_98 : decode cX11_hunts 98 = .ok (.iload_n 2, 1) := dk_28 (dk_at dksX11_hunts_4 7 rfl rfl)
theorem dX11_hunts_99 : decode cX11_hunts 99 = .ok (.iastore, 1) := dk_79 (dk_at dksX11_hunts_4 8 rfl rfl)
theorem dX11_hunts_100 : decode cX11_hunts 100 = .ok (.aload_n 0, 1) := dk_42 (dk_at dksX11_hunts_4 9 rfl rfl)
theorem dX11_hunts_101 : decode cX11_hunts 101 = .ok (.getfield 3, 3) := dk_180 0 3 (dk_at dksX11_hunts_4 10 rfl rfl)
theorem dX11_hunts_104 : decode cX11_hunts 104 = .ok (.getfield 87, 3) := dk_180 0 87 (dk_at dksX11_hunts_4 13 rfl rfl)
theorem dX11_hunts_107 : decode cX11_hunts 107 = .ok (.iconst 4, 1) := dk_7 (dk_at dksX11_hunts_4 16 rfl rfl)
theorem dX11_hunts_108 : decode cX11_hunts 108 = .ok (.aload_n 0, 1) := dk_42 (dk_at dksX11_hunts_4 17 rfl rfl)
theorem dX11_hunts_109 : decode cX11_hunts 109 = .ok (.getfield 25, 3) := dk_180 0 25 (dk_at dksX11_hunts_4 18 rfl rfl)
theorem dX11_hunts_112 : decode cX11_hunts 112 = .ok (.iastore, 1) := dk_79 (dk_at dksX11_hunts_4 21 rfl rfl)
theorem dX11_hunts_113 : decode cX11_hunts 113 = .ok (.aload_n 0, 1) := dk_42 (dk_at dksX11_hunts_4 22 rfl rfl)
theorem dX11_hunts_114 : decode cX11_hunts 114 = .ok (.getfield 3, 3) := dk_180 0 3 (dk_at dksX11_hunts_5 0 rfl rfl)
theorem dX11_hunts_117 : decode cX11_hunts 117 = .ok (.getfield 87, 3) := dk_180 0 87 (dk_at dksX11_hunts_5 3 rfl rfl)
theorem dX11_hunts_120 : decode cX11_hunts 120 = .ok (.iconst 5, 1) := dk_8 (dk_at dksX11_hunts_5 6 rfl rfl)
theorem dX11_hunts_121 : decode cX11_hunts 121 = .ok (.aload_n 0, 1) := dk_42 (dk_at dksX11_hunts_5 7 rfl rfl)
theorem dX11_hunts_122 : decode cX11_hunts 122 = .ok (.getfield 38, 3) := dk_180 0 38 (dk_at dksX11_hunts_5 8 rfl rfl)
theorem dX11_hunts_125 : decode cX11_hunts 125 = .ok (.ifCond .eq 7, 3) := dk_153 0 7 (dk_at dksX11_hunts_5 11 rfl rfl)
theorem dX11_hunts_128 : decode cX11_hunts 128 = .ok (.iconst 1, 1) := dk_4 (dk_at dksX11_hunts_5 14 rfl rfl)
theorem dX11_hunts_129 : decode cX11_hunts 129 = .ok (.goto 4, 3) := dk_167 0 4 (dk_at dksX11_hunts_5 15 rfl rfl)
theorem dX11_hunts_132 : decode cX11_hunts 132 = .ok (.iconst 0, 1) := dk_3 (dk_at dksX11_hunts_5 18 rfl rfl)
theorem dX11_hunts_133 : decode cX11_hunts 133 = .ok (.iastore, 1) := dk_79 (dk_at dksX11_hunts_5 19 rfl rfl)
theorem dX11_hunts_134 : decode cX11_hunts 134 = .ok (.aload_n 0, 1) := dk_42 (dk_at dksX11_hunts_5 20 rfl rfl)
theorem dX11_hunts_135 : decode cX11_hunts 135 = .ok (.getfield 3, 3) := dk_180 0 3 (dk_at dksX11_hunts_5 21 rfl rfl)
theorem dX11_hunts_138 : decode cX11_hunts 138 = .ok (.getfield 87, 3) := dk_180 0 87 (dk_at dksX11_hunts_6 0 rfl rfl)
theorem dX11_hunts_141 : decode cX11_hunts 141 = .ok (.bipush 6, 2) := dk_16 6 (dk_at dksX11_hunts_6 3 rfl rfl)
theorem dX11_hunts_143 : decode cX11_hunts 143 = .ok (.iload_n 3, 1) := dk_29 (dk_at dksX11_hunts_6 5 rfl rfl)
theorem dX11_hunts_144 : decode cX11_hunts 144 = .ok (.bipush 60, 2) := dk_16 60 (dk_at dksX11_hunts_6 6 rfl rfl)
theorem dX11_hunts_146 : decode cX11_hunts 146 = .ok (.idiv, 1) := dk_108 (dk_at dksX11_hunts_6 8 rfl rfl)
theorem dX11_hunts_147 : decode cX11_hunts 147 = .ok (.iastore, 1) := dk_79 (dk_at dksX11_hunts_6 9 rfl rfl)
theorem dX11_hunts_148 : decode cX11_hunts 148 = .ok (.iconst 0, 1) := dk_3 (dk_at dksX11_hunts_6 10 rfl rfl)
theorem dX11_hunts_149 : decode cX11_hunts 149 = .ok (.bipush 30, 2) := dk_16 30 (dk_at dksX11_hunts_6 11 rfl rfl)
theorem dX11_hunts_151 : decode cX11_hunts 151 = .ok (.aload_n 0, 1) := dk_42 (dk_at dksX11_hunts_6 13 rfl rfl)
theorem dX11_hunts_152 : decode cX11_hunts 152 = .ok (.getfield 3, 3) := dk_180 0 3 (dk_at dksX11_hunts_6 14 rfl rfl)
theorem dX11_hunts_155 : decode cX11_hunts 155 = .ok (.getfield 69, 3) := dk_180 0 69 (dk_at dksX11_hunts_6 17 rfl rfl)
theorem dX11_hunts_158 : decode cX11_hunts 158 = .ok (.getfield 93, 3) := dk_180 0 93 (dk_at dksX11_hunts_6 20 rfl rfl)
theorem dX11_hunts_161 : decode cX11_hunts 161 = .ok (.aload_n 0, 1) := dk_42 (dk_at dksX11_hunts_6 23 rfl rfl)
theorem dX11_hunts_162 : decode cX11_hunts 162 = .ok (.getfield 19, 3) := dk_180 0 19 (dk_at dksX11_hunts_7 0 rfl rfl)
theorem dX11_hunts_165 : decode cX11_hunts 165 = .ok (.invokeinterface 97 2, 5) := by decide +kernel
theorem dX11_hunts_170 : decode cX11_hunts 170 = .ok (.checkcast 103, 3) := dk_192 0 103 (dk_at dksX11_hunts_7 8 rfl rfl)
theorem dX11_hunts_173 : decode cX11_hunts 173 = .ok (.aload_n 0, 1) := dk_42 (dk_at dksX11_hunts_7 11 rfl rfl)
theorem dX11_hunts_174 : decode cX11_hunts 174 = .ok (.getfield 3, 3) := dk_180 0 3 (dk_at dksX11_hunts_7 12 rfl rfl)
theorem dX11_hunts_177 : decode cX11_hunts 177 = .ok (.getfield 87, 3) := dk_180 0 87 (dk_at dksX11_hunts_7 15 rfl rfl)
theorem dX11_hunts_180 : decode cX11_hunts 180 = .ok (.invokeinterface 105 2, 5) := by decide +kernel
theorem dX11_hunts_185 : decode cX11_hunts 185 = .ok (.invokestatic 109, 3) := dk_184 0 109 (dk_at dksX11_hunts_8 0 rfl rfl)
theorem dX11_hunts_188 : decode cX11_hunts 188 = .ok (.invokestatic 115, 3) := dk_184 0 115 (dk_at dksX11_hunts_8 3 rfl rfl)
theorem dX11_hunts_191 : decode cX11_hunts 191 = .ok (.ireturn, 1) := dk_172 (dk_at dksX11_hunts_8 6 rfl rfl)
abbrev cX11_flight : ByteArray := prog_5_method_3_code
def yX11_flight : MethodName := ⟨RX11, "flight", "(LWingTrams$Owl;II)I"⟩
def dkwX11_flight_2 : List UInt8 := [21, 4, 104, 167, 0, 5, 21, 4, 172]
abbrev dktX11_flight_2 : List UInt8 := dkwX11_flight_2 ++ []
def dkwX11_flight_1 : List UInt8 := [42, 180, 0, 25, 7, 161, 0, 11, 21, 4, 4, 96, 5, 108, 54, 4, 42, 180, 0, 38, 153, 0, 10, 5]
abbrev dktX11_flight_1 : List UInt8 := dkwX11_flight_1 ++ dktX11_flight_2
def dkwX11_flight_0 : List UInt8 := [42, 180, 0, 3, 180, 0, 69, 180, 0, 73, 28, 50, 29, 46, 54, 4, 43, 180, 0, 78, 4, 160, 0, 19]
abbrev dktX11_flight_0 : List UInt8 := dkwX11_flight_0 ++ dktX11_flight_1
theorem dksX11_flight_0 : cX11_flight.data.toList.drop 0 = dktX11_flight_0 := by decide +kernel
theorem dksX11_flight_1 : cX11_flight.data.toList.drop 24 = dktX11_flight_1 := dk_seg dksX11_flight_0 24 rfl rfl
theorem dksX11_flight_2 : cX11_flight.data.toList.drop 48 = dktX11_flight_2 := dk_seg dksX11_flight_1 24 rfl rfl
theorem dX11_flight_0 : decode cX11_flight 0 = .ok (.aload_n 0, 1) := dk_42 (dk_at dksX11_flight_0 0 rfl rfl)
theorem dX11_flight_1 : decode cX11_flight 1 = .ok (.getfield 3, 3) := dk_180 0 3 (dk_at dksX11_flight_0 1 rfl rfl)
theorem dX11_flight_4 : decode cX11_flight 4 = .ok (.getfield 69, 3) := dk_180 0 69 (dk_at dksX11_flight_0 4 rfl rfl)
theorem dX11_flight_7 : decode cX11_flight 7 = .ok (.getfield 73, 3) := dk_180 0 73 (dk_at dksX11_flight_0 7 rfl rfl)
theorem dX11_flight_10 : decode cX11_flight 10 = .ok (.iload_n 2, 1) := dk_28 (dk_at dksX11_flight_0 10 rfl rfl)
theorem dX11_flight_11 : decode cX11_flight 11 = .ok (.aaload, 1) := dk_50 (dk_at dksX11_flight_0 11 rfl rfl)
theorem dX11_flight_12 : decode cX11_flight 12 = .ok (.iload_n 3, 1) := dk_29 (dk_at dksX11_flight_0 12 rfl rfl)
theorem dX11_flight_13 : decode cX11_flight 13 = .ok (.iaload, 1) := dk_46 (dk_at dksX11_flight_0 13 rfl rfl)
theorem dX11_flight_14 : decode cX11_flight 14 = .ok (.istore 4, 2) := dk_54 4 (dk_at dksX11_flight_0 14 rfl rfl)
theorem dX11_flight_16 : decode cX11_flight 16 = .ok (.aload_n 1, 1) := dk_43 (dk_at dksX11_flight_0 16 rfl rfl)
theorem dX11_flight_17 : decode cX11_flight 17 = .ok (.getfield 78, 3) := dk_180 0 78 (dk_at dksX11_flight_0 17 rfl rfl)
theorem dX11_flight_20 : decode cX11_flight 20 = .ok (.iconst 1, 1) := dk_4 (dk_at dksX11_flight_0 20 rfl rfl)
theorem dX11_flight_21 : decode cX11_flight 21 = .ok (.if_icmp .ne 19, 3) := dk_160 0 19 (dk_at dksX11_flight_0 21 rfl rfl)
theorem dX11_flight_24 : decode cX11_flight 24 = .ok (.aload_n 0, 1) := dk_42 (dk_at dksX11_flight_1 0 rfl rfl)
theorem dX11_flight_25 : decode cX11_flight 25 = .ok (.getfield 25, 3) := dk_180 0 25 (dk_at dksX11_flight_1 1 rfl rfl)
theorem dX11_flight_28 : decode cX11_flight 28 = .ok (.iconst 4, 1) := dk_7 (dk_at dksX11_flight_1 4 rfl rfl)
theorem dX11_flight_29 : decode cX11_flight 29 = .ok (.if_icmp .lt 11, 3) := dk_161 0 11 (dk_at dksX11_flight_1 5 rfl rfl)
theorem dX11_flight_32 : decode cX11_flight 32 = .ok (.iload 4, 2) := dk_21 4 (dk_at dksX11_flight_1 8 rfl rfl)
theorem dX11_flight_34 : decode cX11_flight 34 = .ok (.iconst 1, 1) := dk_4 (dk_at dksX11_flight_1 10 rfl rfl)
theorem dX11_flight_35 : decode cX11_flight 35 = .ok (.iadd, 1) := dk_96 (dk_at dksX11_flight_1 11 rfl rfl)
theorem dX11_flight_36 : decode cX11_flight 36 = .ok (.iconst 2, 1) := dk_5 (dk_at dksX11_flight_1 12 rfl rfl)
theorem dX11_flight_37 : decode cX11_flight 37 = .ok (.idiv, 1) := dk_108 (dk_at dksX11_flight_1 13 rfl rfl)
theorem dX11_flight_38 : decode cX11_flight 38 = .ok (.istore 4, 2) := dk_54 4 (dk_at dksX11_flight_1 14 rfl rfl)
theorem dX11_flight_40 : decode cX11_flight 40 = .ok (.aload_n 0, 1) := dk_42 (dk_at dksX11_flight_1 16 rfl rfl)
theorem dX11_flight_41 : decode cX11_flight 41 = .ok (.getfield 38, 3) := dk_180 0 38 (dk_at dksX11_flight_1 17 rfl rfl)
theorem dX11_flight_44 : decode cX11_flight 44 = .ok (.ifCond .eq 10, 3) := dk_153 0 10 (dk_at dksX11_flight_1 20 rfl rfl)
theorem dX11_flight_47 : decode cX11_flight 47 = .ok (.iconst 2, 1) := dk_5 (dk_at dksX11_flight_1 23 rfl rfl)
theorem dX11_flight_48 : decode cX11_flight 48 = .ok (.iload 4, 2) := dk_21 4 (dk_at dksX11_flight_2 0 rfl rfl)
theorem dX11_flight_50 : decode cX11_flight 50 = .ok (.imul, 1) := dk_104 (dk_at dksX11_flight_2 2 rfl rfl)
theorem dX11_flight_51 : decode cX11_flight 51 = .ok (.goto 5, 3) := dk_167 0 5 (dk_at dksX11_flight_2 3 rfl rfl)
theorem dX11_flight_54 : decode cX11_flight 54 = .ok (.iload 4, 2) := dk_21 4 (dk_at dksX11_flight_2 6 rfl rfl)
theorem dX11_flight_56 : decode cX11_flight 56 = .ok (.ireturn, 1) := dk_172 (dk_at dksX11_flight_2 8 rfl rfl)
abbrev cX11_home : ByteArray := prog_5_method_13_code
def yX11_home : MethodName := ⟨RX11, "home", "([I)I"⟩
def dkwX11_home_1 : List UInt8 := [163, 0, 14, 42, 180, 0, 62, 43, 4, 46, 46, 167, 0, 5, 18, 158, 172]
abbrev dktX11_home_1 : List UInt8 := dkwX11_home_1 ++ []
def dkwX11_home_0 : List UInt8 := [42, 43, 182, 0, 167, 42, 180, 0, 62, 43, 4, 46, 46, 42, 180, 0, 3, 180, 0, 69, 180, 0, 152]
abbrev dktX11_home_0 : List UInt8 := dkwX11_home_0 ++ dktX11_home_1
theorem dksX11_home_0 : cX11_home.data.toList.drop 0 = dktX11_home_0 := by decide +kernel
theorem dksX11_home_1 : cX11_home.data.toList.drop 23 = dktX11_home_1 := dk_seg dksX11_home_0 23 rfl rfl
theorem dX11_home_0 : decode cX11_home 0 = .ok (.aload_n 0, 1) := dk_42 (dk_at dksX11_home_0 0 rfl rfl)
theorem dX11_home_1 : decode cX11_home 1 = .ok (.aload_n 1, 1) := dk_43 (dk_at dksX11_home_0 1 rfl rfl)
theorem dX11_home_2 : decode cX11_home 2 = .ok (.invokevirtual 167, 3) := dk_182 0 167 (dk_at dksX11_home_0 2 rfl rfl)
theorem dX11_home_5 : decode cX11_home 5 = .ok (.aload_n 0, 1) := dk_42 (dk_at dksX11_home_0 5 rfl rfl)
theorem dX11_home_6 : decode cX11_home 6 = .ok (.getfield 62, 3) := dk_180 0 62 (dk_at dksX11_home_0 6 rfl rfl)
theorem dX11_home_9 : decode cX11_home 9 = .ok (.aload_n 1, 1) := dk_43 (dk_at dksX11_home_0 9 rfl rfl)
theorem dX11_home_10 : decode cX11_home 10 = .ok (.iconst 1, 1) := dk_4 (dk_at dksX11_home_0 10 rfl rfl)
theorem dX11_home_11 : decode cX11_home 11 = .ok (.iaload, 1) := dk_46 (dk_at dksX11_home_0 11 rfl rfl)
theorem dX11_home_12 : decode cX11_home 12 = .ok (.iaload, 1) := dk_46 (dk_at dksX11_home_0 12 rfl rfl)
theorem dX11_home_13 : decode cX11_home 13 = .ok (.aload_n 0, 1) := dk_42 (dk_at dksX11_home_0 13 rfl rfl)
theorem dX11_home_14 : decode cX11_home 14 = .ok (.getfield 3, 3) := dk_180 0 3 (dk_at dksX11_home_0 14 rfl rfl)
theorem dX11_home_17 : decode cX11_home 17 = .ok (.getfield 69, 3) := dk_180 0 69 (dk_at dksX11_home_0 17 rfl rfl)
theorem dX11_home_20 : decode cX11_home 20 = .ok (.getfield 152, 3) := dk_180 0 152 (dk_at dksX11_home_0 20 rfl rfl)
theorem dX11_home_23 : decode cX11_home 23 = .ok (.if_icmp .gt 14, 3) := dk_163 0 14 (dk_at dksX11_home_1 0 rfl rfl)
theorem dX11_home_26 : decode cX11_home 26 = .ok (.aload_n 0, 1) := dk_42 (dk_at dksX11_home_1 3 rfl rfl)
theorem dX11_home_27 : decode cX11_home 27 = .ok (.getfield 62, 3) := dk_180 0 62 (dk_at dksX11_home_1 4 rfl rfl)
theorem dX11_home_30 : decode cX11_home 30 = .ok (.aload_n 1, 1) := dk_43 (dk_at dksX11_home_1 7 rfl rfl)
theorem dX11_home_31 : decode cX11_home 31 = .ok (.iconst 1, 1) := dk_4 (dk_at dksX11_home_1 8 rfl rfl)
theorem dX11_home_32 : decode cX11_home 32 = .ok (.iaload, 1) := dk_46 (dk_at dksX11_home_1 9 rfl rfl)
theorem dX11_home_33 : decode cX11_home 33 = .ok (.iaload, 1) := dk_46 (dk_at dksX11_home_1 10 rfl rfl)
theorem dX11_home_34 : decode cX11_home 34 = .ok (.goto 5, 3) := dk_167 0 5 (dk_at dksX11_home_1 11 rfl rfl)
theorem dX11_home_37 : decode cX11_home 37 = .ok (.ldc 158, 2) := dk_18 158 (dk_at dksX11_home_1 14 rfl rfl)
theorem dX11_home_39 : decode cX11_home 39 = .ok (.ireturn, 1) := dk_172 (dk_at dksX11_home_1 16 rfl rfl)
abbrev cX11_tellSoon : ByteArray := prog_5_method_12_code
def yX11_tellSoon : MethodName := ⟨RX11, "tellSoon", "([I)V"⟩
def dkwX11_tellSoon_2 : List UInt8 := [180, 0, 62, 182, 0, 163, 128, 61, 132, 3, 1, 167, 255, 218, 167, 255, 207, 177]
abbrev dktX11_tellSoon_2 : List UInt8 := dkwX11_tellSoon_2 ++ []
def dkwX11_tellSoon_1 : List UInt8 := [180, 0, 69, 180, 0, 118, 185, 0, 131, 1, 0, 162, 0, 25, 28, 42, 29, 42, 180, 0, 62, 42]
abbrev dktX11_tellSoon_1 : List UInt8 := dkwX11_tellSoon_1 ++ dktX11_tellSoon_2
def dkwX11_tellSoon_0 : List UInt8 := [42, 42, 180, 0, 62, 43, 182, 0, 159, 4, 61, 28, 153, 0, 51, 3, 61, 3, 62, 29, 42, 180, 0, 3]
abbrev dktX11_tellSoon_0 : List UInt8 := dkwX11_tellSoon_0 ++ dktX11_tellSoon_1
theorem dksX11_tellSoon_0 : cX11_tellSoon.data.toList.drop 0 = dktX11_tellSoon_0 := by decide +kernel
theorem dksX11_tellSoon_1 : cX11_tellSoon.data.toList.drop 24 = dktX11_tellSoon_1 := dk_seg dksX11_tellSoon_0 24 rfl rfl
theorem dksX11_tellSoon_2 : cX11_tellSoon.data.toList.drop 46 = dktX11_tellSoon_2 := dk_seg dksX11_tellSoon_1 22 rfl rfl
theorem dX11_tellSoon_0 : decode cX11_tellSoon 0 = .ok (.aload_n 0, 1) := dk_42 (dk_at dksX11_tellSoon_0 0 rfl rfl)
theorem dX11_tellSoon_1 : decode cX11_tellSoon 1 = .ok (.aload_n 0, 1) := dk_42 (dk_at dksX11_tellSoon_0 1 rfl rfl)
theorem dX11_tellSoon_2 : decode cX11_tellSoon 2 = .ok (.getfield 62, 3) := dk_180 0 62 (dk_at dksX11_tellSoon_0 2 rfl rfl)
theorem dX11_tellSoon_5 : decode cX11_tellSoon 5 = .ok (.aload_n 1, 1) := dk_43 (dk_at dksX11_tellSoon_0 5 rfl rfl)
theorem dX11_tellSoon_6 : decode cX11_tellSoon 6 = .ok (.invokevirtual 159, 3) := dk_182 0 159 (dk_at dksX11_tellSoon_0 6 rfl rfl)
theorem dX11_tellSoon_9 : decode cX11_tellSoon 9 = .ok (.iconst 1, 1) := dk_4 (dk_at dksX11_tellSoon_0 9 rfl rfl)
theorem dX11_tellSoon_10 : decode cX11_tellSoon 10 = .ok (.istore_n 2, 1) := dk_61 (dk_at dksX11_tellSoon_0 10 rfl rfl)
theorem dX11_tellSoon_11 : decode cX11_tellSoon 11 = .ok (.iload_n 2, 1) := dk_28 (dk_at dksX11_tellSoon_0 11 rfl rfl)
theorem dX11_tellSoon_12 : decode cX11_tellSoon 12 = .ok (.ifCond .eq 51, 3) := dk_153 0 51 (dk_at dksX11_tellSoon_0 12 rfl rfl)
theorem dX11_tellSoon_15 : decode cX11_tellSoon 15 = .ok (.iconst 0, 1) := dk_3 (dk_at dksX11_tellSoon_0 15 rfl rfl)
theorem dX11_tellSoon_16 : decode cX11_tellSoon 16 = .ok (.istore_n 2, 1) := dk_61 (dk_at dksX11_tellSoon_0 16 rfl rfl)
theorem dX11_tellSoon_17 : decode cX11_tellSoon 17 = .ok (.iconst 0, 1) := dk_3 (dk_at dksX11_tellSoon_0 17 rfl rfl)
theorem dX11_tellSoon_18 : decode cX11_tellSoon 18 = .ok (.istore_n 3, 1) := dk_62 (dk_at dksX11_tellSoon_0 18 rfl rfl)
theorem dX11_tellSoon_19 : decode cX11_tellSoon 19 = .ok (.iload_n 3, 1) := dk_29 (dk_at dksX11_tellSoon_0 19 rfl rfl)
theorem dX11_tellSoon_20 : decode cX11_tellSoon 20 = .ok (.aload_n 0, 1) := dk_42 (dk_at dksX11_tellSoon_0 20 rfl rfl)
theorem dX11_tellSoon_21 : decode cX11_tellSoon 21 = .ok (.getfield 3, 3) := dk_180 0 3 (dk_at dksX11_tellSoon_0 21 rfl rfl)
theorem dX11_tellSoon_24 : decode cX11_tellSoon 24 = .ok (.getfield 69, 3) := dk_180 0 69 (dk_at dksX11_tellSoon_1 0 rfl rfl)
theorem dX11_tellSoon_27 : decode cX11_tellSoon 27 = .ok (.getfield 118, 3) := dk_180 0 118 (dk_at dksX11_tellSoon_1 3 rfl rfl)
theorem dX11_tellSoon_30 : decode cX11_tellSoon 30 = .ok (.invokeinterface 131 1, 5) := by decide +kernel
theorem dX11_tellSoon_35 : decode cX11_tellSoon 35 = .ok (.if_icmp .ge 25, 3) := dk_162 0 25 (dk_at dksX11_tellSoon_1 11 rfl rfl)
theorem dX11_tellSoon_38 : decode cX11_tellSoon 38 = .ok (.iload_n 2, 1) := dk_28 (dk_at dksX11_tellSoon_1 14 rfl rfl)
theorem dX11_tellSoon_39 : decode cX11_tellSoon 39 = .ok (.aload_n 0, 1) := dk_42 (dk_at dksX11_tellSoon_1 15 rfl rfl)
theorem dX11_tellSoon_40 : decode cX11_tellSoon 40 = .ok (.iload_n 3, 1) := dk_29 (dk_at dksX11_tellSoon_1 16 rfl rfl)
theorem dX11_tellSoon_41 : decode cX11_tellSoon 41 = .ok (.aload_n 0, 1) := dk_42 (dk_at dksX11_tellSoon_1 17 rfl rfl)
theorem dX11_tellSoon_42 : decode cX11_tellSoon 42 = .ok (.getfield 62, 3) := dk_180 0 62 (dk_at dksX11_tellSoon_1 18 rfl rfl)
theorem dX11_tellSoon_45 : decode cX11_tellSoon 45 = .ok (.aload_n 0, 1) := dk_42 (dk_at dksX11_tellSoon_1 21 rfl rfl)
theorem dX11_tellSoon_46 : decode cX11_tellSoon 46 = .ok (.getfield 62, 3) := dk_180 0 62 (dk_at dksX11_tellSoon_2 0 rfl rfl)
theorem dX11_tellSoon_49 : decode cX11_tellSoon 49 = .ok (.invokevirtual 163, 3) := dk_182 0 163 (dk_at dksX11_tellSoon_2 3 rfl rfl)
theorem dX11_tellSoon_52 : decode cX11_tellSoon 52 = .ok (.ior, 1) := dk_128 (dk_at dksX11_tellSoon_2 6 rfl rfl)
theorem dX11_tellSoon_53 : decode cX11_tellSoon 53 = .ok (.istore_n 2, 1) := dk_61 (dk_at dksX11_tellSoon_2 7 rfl rfl)
theorem dX11_tellSoon_54 : decode cX11_tellSoon 54 = .ok (.iinc 3 1, 3) := dk_132 3 1 (dk_at dksX11_tellSoon_2 8 rfl rfl)
theorem dX11_tellSoon_57 : decode cX11_tellSoon 57 = .ok (.goto (-38), 3) := dk_167 255 218 (dk_at dksX11_tellSoon_2 11 rfl rfl)
theorem dX11_tellSoon_60 : decode cX11_tellSoon 60 = .ok (.goto (-49), 3) := dk_167 255 207 (dk_at dksX11_tellSoon_2 14 rfl rfl)
theorem dX11_tellSoon_63 : decode cX11_tellSoon 63 = .ok (.return_, 1) := dk_177 (dk_at dksX11_tellSoon_2 17 rfl rfl)
abbrev cX11_begin : ByteArray := prog_5_method_11_code
def yX11_begin : MethodName := ⟨RX11, "begin", "([I[I)V"⟩
def dkwX11_begin_1 : List UInt8 := [18, 158, 79, 132, 3, 1, 167, 255, 229, 177]
abbrev dktX11_begin_1 : List UInt8 := dkwX11_begin_1 ++ []
def dkwX11_begin_0 : List UInt8 := [3, 62, 29, 16, 10, 162, 0, 27, 43, 29, 29, 44, 3, 46, 160, 0, 9, 44, 5, 46, 167, 0, 5]
abbrev dktX11_begin_0 : List UInt8 := dkwX11_begin_0 ++ dktX11_begin_1
theorem dksX11_begin_0 : cX11_begin.data.toList.drop 0 = dktX11_begin_0 := by decide +kernel
theorem dksX11_begin_1 : cX11_begin.data.toList.drop 23 = dktX11_begin_1 := dk_seg dksX11_begin_0 23 rfl rfl
theorem dX11_begin_0 : decode cX11_begin 0 = .ok (.iconst 0, 1) := dk_3 (dk_at dksX11_begin_0 0 rfl rfl)
theorem dX11_begin_1 : decode cX11_begin 1 = .ok (.istore_n 3, 1) := dk_62 (dk_at dksX11_begin_0 1 rfl rfl)
theorem dX11_begin_2 : decode cX11_begin 2 = .ok (.iload_n 3, 1) := dk_29 (dk_at dksX11_begin_0 2 rfl rfl)
theorem dX11_begin_3 : decode cX11_begin 3 = .ok (.bipush 10, 2) := dk_16 10 (dk_at dksX11_begin_0 3 rfl rfl)
theorem dX11_begin_5 : decode cX11_begin 5 = .ok (.if_icmp .ge 27, 3) := dk_162 0 27 (dk_at dksX11_begin_0 5 rfl rfl)
theorem dX11_begin_8 : decode cX11_begin 8 = .ok (.aload_n 1, 1) := dk_43 (dk_at dksX11_begin_0 8 rfl rfl)
theorem dX11_begin_9 : decode cX11_begin 9 = .ok (.iload_n 3, 1) := dk_29 (dk_at dksX11_begin_0 9 rfl rfl)
theorem dX11_begin_10 : decode cX11_begin 10 = .ok (.iload_n 3, 1) := dk_29 (dk_at dksX11_begin_0 10 rfl rfl)
theorem dX11_begin_11 : decode cX11_begin 11 = .ok (.aload_n 2, 1) := dk_44 (dk_at dksX11_begin_0 11 rfl rfl)
theorem dX11_begin_12 : decode cX11_begin 12 = .ok (.iconst 0, 1) := dk_3 (dk_at dksX11_begin_0 12 rfl rfl)
theorem dX11_begin_13 : decode cX11_begin 13 = .ok (.iaload, 1) := dk_46 (dk_at dksX11_begin_0 13 rfl rfl)
theorem dX11_begin_14 : decode cX11_begin 14 = .ok (.if_icmp .ne 9, 3) := dk_160 0 9 (dk_at dksX11_begin_0 14 rfl rfl)
theorem dX11_begin_17 : decode cX11_begin 17 = .ok (.aload_n 2, 1) := dk_44 (dk_at dksX11_begin_0 17 rfl rfl)
theorem dX11_begin_18 : decode cX11_begin 18 = .ok (.iconst 2, 1) := dk_5 (dk_at dksX11_begin_0 18 rfl rfl)
theorem dX11_begin_19 : decode cX11_begin 19 = .ok (.iaload, 1) := dk_46 (dk_at dksX11_begin_0 19 rfl rfl)
theorem dX11_begin_20 : decode cX11_begin 20 = .ok (.goto 5, 3) := dk_167 0 5 (dk_at dksX11_begin_0 20 rfl rfl)
theorem dX11_begin_23 : decode cX11_begin 23 = .ok (.ldc 158, 2) := dk_18 158 (dk_at dksX11_begin_1 0 rfl rfl)
theorem dX11_begin_25 : decode cX11_begin 25 = .ok (.iastore, 1) := dk_79 (dk_at dksX11_begin_1 2 rfl rfl)
theorem dX11_begin_26 : decode cX11_begin 26 = .ok (.iinc 3 1, 3) := dk_132 3 1 (dk_at dksX11_begin_1 3 rfl rfl)
theorem dX11_begin_29 : decode cX11_begin 29 = .ok (.goto (-27), 3) := dk_167 255 229 (dk_at dksX11_begin_1 6 rfl rfl)
theorem dX11_begin_32 : decode cX11_begin 32 = .ok (.return_, 1) := dk_177 (dk_at dksX11_begin_1 9 rfl rfl)
abbrev cX11_ride : ByteArray := prog_5_method_10_code
def yX11_ride : MethodName := ⟨RX11, "ride", "(I[I[I)Z"⟩
def dkwX11_ride_5 : List UInt8 := [132, 7, 1, 167, 255, 163, 21, 6, 172]
abbrev dktX11_ride_5 : List UInt8 := dkwX11_ride_5 ++ []
def dkwX11_ride_4 : List UInt8 := [44, 21, 8, 46, 42, 180, 0, 59, 27, 50, 21, 7, 46, 163, 0, 7, 4, 167, 0, 4, 3, 128, 54, 5]
abbrev dktX11_ride_4 : List UInt8 := dkwX11_ride_4 ++ dktX11_ride_5
def dkwX11_ride_3 : List UInt8 := [21, 8, 46, 162, 0, 19, 45, 21, 8, 42, 180, 0, 56, 27, 50, 21, 7, 46, 79, 4, 54, 6, 21, 5]
abbrev dktX11_ride_3 : List UInt8 := dkwX11_ride_3 ++ dktX11_ride_4
def dkwX11_ride_2 : List UInt8 := [25, 4, 21, 7, 182, 0, 83, 54, 8, 21, 5, 153, 0, 35, 42, 180, 0, 56, 27, 50, 21, 7, 46, 45]
abbrev dktX11_ride_2 : List UInt8 := dkwX11_ride_2 ++ dktX11_ride_3
def dkwX11_ride_1 : List UInt8 := [3, 54, 6, 3, 54, 7, 21, 7, 25, 4, 182, 0, 138, 162, 0, 89, 42, 27, 182, 0, 135, 153, 0, 81]
abbrev dktX11_ride_1 : List UInt8 := dkwX11_ride_1 ++ dktX11_ride_2
def dkwX11_ride_0 : List UInt8 := [42, 180, 0, 3, 180, 0, 69, 180, 0, 118, 27, 185, 0, 97, 2, 0, 192, 0, 79, 58, 4, 3, 54, 5]
abbrev dktX11_ride_0 : List UInt8 := dkwX11_ride_0 ++ dktX11_ride_1
theorem dksX11_ride_0 : cX11_ride.data.toList.drop 0 = dktX11_ride_0 := by decide +kernel
theorem dksX11_ride_1 : cX11_ride.data.toList.drop 24 = dktX11_ride_1 := dk_seg dksX11_ride_0 24 rfl rfl
theorem dksX11_ride_2 : cX11_ride.data.toList.drop 48 = dktX11_ride_2 := dk_seg dksX11_ride_1 24 rfl rfl
theorem dksX11_ride_3 : cX11_ride.data.toList.drop 72 = dktX11_ride_3 := dk_seg dksX11_ride_2 24 rfl rfl
theorem dksX11_ride_4 : cX11_ride.data.toList.drop 96 = dktX11_ride_4 := dk_seg dksX11_ride_3 24 rfl rfl
theorem dksX11_ride_5 : cX11_ride.data.toList.drop 120 = dktX11_ride_5 := dk_seg dksX11_ride_4 24 rfl rfl
theorem dX11_ride_0 : decode cX11_ride 0 = .ok (.aload_n 0, 1) := dk_42 (dk_at dksX11_ride_0 0 rfl rfl)
theorem dX11_ride_1 : decode cX11_ride 1 = .ok (.getfield 3, 3) := dk_180 0 3 (dk_at dksX11_ride_0 1 rfl rfl)
theorem dX11_ride_4 : decode cX11_ride 4 = .ok (.getfield 69, 3) := dk_180 0 69 (dk_at dksX11_ride_0 4 rfl rfl)
theorem dX11_ride_7 : decode cX11_ride 7 = .ok (.getfield 118, 3) := dk_180 0 118 (dk_at dksX11_ride_0 7 rfl rfl)
theorem dX11_ride_10 : decode cX11_ride 10 = .ok (.iload_n 1, 1) := dk_27 (dk_at dksX11_ride_0 10 rfl rfl)
theorem dX11_ride_11 : decode cX11_ride 11 = .ok (.invokeinterface 97 2, 5) := by decide +kernel
theorem dX11_ride_16 : decode cX11_ride 16 = .ok (.checkcast 79, 3) := dk_192 0 79 (dk_at dksX11_ride_0 16 rfl rfl)
theorem dX11_ride_19 : decode cX11_ride 19 = .ok (.astore 4, 2) := dk_58 4 (dk_at dksX11_ride_0 19 rfl rfl)
theorem dX11_ride_21 : decode cX11_ride 21 = .ok (.iconst 0, 1) := dk_3 (dk_at dksX11_ride_0 21 rfl rfl)
theorem dX11_ride_22 : decode cX11_ride 22 = .ok (.istore 5, 2) := dk_54 5 (dk_at dksX11_ride_0 22 rfl rfl)
theorem dX11_ride_24 : decode cX11_ride 24 = .ok (.iconst 0, 1) := dk_3 (dk_at dksX11_ride_1 0 rfl rfl)
theorem dX11_ride_25 : decode cX11_ride 25 = .ok (.istore 6, 2) := dk_54 6 (dk_at dksX11_ride_1 1 rfl rfl)
theorem dX11_ride_27 : decode cX11_ride 27 = .ok (.iconst 0, 1) := dk_3 (dk_at dksX11_ride_1 3 rfl rfl)
theorem dX11_ride_28 : decode cX11_ride 28 = .ok (.istore 7, 2) := dk_54 7 (dk_at dksX11_ride_1 4 rfl rfl)
theorem dX11_ride_30 : decode cX11_ride 30 = .ok (.iload 7, 2) := dk_21 7 (dk_at dksX11_ride_1 6 rfl rfl)
theorem dX11_ride_32 : decode cX11_ride 32 = .ok (.aload 4, 2) := dk_25 4 (dk_at dksX11_ride_1 8 rfl rfl)
theorem dX11_ride_34 : decode cX11_ride 34 = .ok (.invokevirtual 138, 3) := dk_182 0 138 (dk_at dksX11_ride_1 10 rfl rfl)
theorem dX11_ride_37 : decode cX11_ride 37 = .ok (.if_icmp .ge 89, 3) := dk_162 0 89 (dk_at dksX11_ride_1 13 rfl rfl)
theorem dX11_ride_40 : decode cX11_ride 40 = .ok (.aload_n 0, 1) := dk_42 (dk_at dksX11_ride_1 16 rfl rfl)
theorem dX11_ride_41 : decode cX11_ride 41 = .ok (.iload_n 1, 1) := dk_27 (dk_at dksX11_ride_1 17 rfl rfl)
theorem dX11_ride_42 : decode cX11_ride 42 = .ok (.invokevirtual 135, 3) := dk_182 0 135 (dk_at dksX11_ride_1 18 rfl rfl)
theorem dX11_ride_45 : decode cX11_ride 45 = .ok (.ifCond .eq 81, 3) := dk_153 0 81 (dk_at dksX11_ride_1 21 rfl rfl)
theorem dX11_ride_48 : decode cX11_ride 48 = .ok (.aload 4, 2) := dk_25 4 (dk_at dksX11_ride_2 0 rfl rfl)
theorem dX11_ride_50 : decode cX11_ride 50 = .ok (.iload 7, 2) := dk_21 7 (dk_at dksX11_ride_2 2 rfl rfl)
theorem dX11_ride_52 : decode cX11_ride 52 = .ok (.invokevirtual 83, 3) := dk_182 0 83 (dk_at dksX11_ride_2 4 rfl rfl)
theorem dX11_ride_55 : decode cX11_ride 55 = .ok (.istore 8, 2) := dk_54 8 (dk_at dksX11_ride_2 7 rfl rfl)
theorem dX11_ride_57 : decode cX11_ride 57 = .ok (.iload 5, 2) := dk_21 5 (dk_at dksX11_ride_2 9 rfl rfl)
theorem dX11_ride_59 : decode cX11_ride 59 = .ok (.ifCond .eq 35, 3) := dk_153 0 35 (dk_at dksX11_ride_2 11 rfl rfl)
theorem dX11_ride_62 : decode cX11_ride 62 = .ok (.aload_n 0, 1) := dk_42 (dk_at dksX11_ride_2 14 rfl rfl)
theorem dX11_ride_63 : decode cX11_ride 63 = .ok (.getfield 56, 3) := dk_180 0 56 (dk_at dksX11_ride_2 15 rfl rfl)
theorem dX11_ride_66 : decode cX11_ride 66 = .ok (.iload_n 1, 1) := dk_27 (dk_at dksX11_ride_2 18 rfl rfl)
theorem dX11_ride_67 : decode cX11_ride 67 = .ok (.aaload, 1) := dk_50 (dk_at dksX11_ride_2 19 rfl rfl)
theorem dX11_ride_68 : decode cX11_ride 68 = .ok (.iload 7, 2) := dk_21 7 (dk_at dksX11_ride_2 20 rfl rfl)
theorem dX11_ride_70 : decode cX11_ride 70 = .ok (.iaload, 1) := dk_46 (dk_at dksX11_ride_2 22 rfl rfl)
theorem dX11_ride_71 : decode cX11_ride 71 = .ok (.aload_n 3, 1) := dk_45 (dk_at dksX11_ride_2 23 rfl rfl)
theorem dX11_ride_72 : decode cX11_ride 72 = .ok (.iload 8, 2) := dk_21 8 (dk_at dksX11_ride_3 0 rfl rfl)
theorem dX11_ride_74 : decode cX11_ride 74 = .ok (.iaload, 1) := dk_46 (dk_at dksX11_ride_3 2 rfl rfl)
theorem dX11_ride_75 : decode cX11_ride 75 = .ok (.if_icmp .ge 19, 3) := dk_162 0 19 (dk_at dksX11_ride_3 3 rfl rfl)
theorem dX11_ride_78 : decode cX11_ride 78 = .ok (.aload_n 3, 1) := dk_45 (dk_at dksX11_ride_3 6 rfl rfl)
theorem dX11_ride_79 : decode cX11_ride 79 = .ok (.iload 8, 2) := dk_21 8 (dk_at dksX11_ride_3 7 rfl rfl)
theorem dX11_ride_81 : decode cX11_ride 81 = .ok (.aload_n 0, 1) := dk_42 (dk_at dksX11_ride_3 9 rfl rfl)
theorem dX11_ride_82 : decode cX11_ride 82 = .ok (.getfield 56, 3) := dk_180 0 56 (dk_at dksX11_ride_3 10 rfl rfl)
theorem dX11_ride_85 : decode cX11_ride 85 = .ok (.iload_n 1, 1) := dk_27 (dk_at dksX11_ride_3 13 rfl rfl)
theorem dX11_ride_86 : decode cX11_ride 86 = .ok (.aaload, 1) := dk_50 (dk_at dksX11_ride_3 14 rfl rfl)
theorem dX11_ride_87 : decode cX11_ride 87 = .ok (.iload 7, 2) := dk_21 7 (dk_at dksX11_ride_3 15 rfl rfl)
theorem dX11_ride_89 : decode cX11_ride 89 = .ok (.iaload, 1) := dk_46 (dk_at dksX11_ride_3 17 rfl rfl)
theorem dX11_ride_90 : decode cX11_ride 90 = .ok (.iastore, 1) := dk_79 (dk_at dksX11_ride_3 18 rfl rfl)
theorem dX11_ride_91 : decode cX11_ride 91 = .ok (.iconst 1, 1) := dk_4 (dk_at dksX11_ride_3 19 rfl rfl)
theorem dX11_ride_92 : decode cX11_ride 92 = .ok (.istore 6, 2) := dk_54 6 (dk_at dksX11_ride_3 20 rfl rfl)
theorem dX11_ride_94 : decode cX11_ride 94 = .ok (.iload 5, 2) := dk_21 5 (dk_at dksX11_ride_3 22 rfl rfl)
theorem dX11_ride_96 : decode cX11_ride 96 = .ok (.aload_n 2, 1) := dk_44 (dk_at dksX11_ride_4 0 rfl rfl)
theorem dX11_ride_97 : decode cX11_ride 97 = .ok (.iload 8, 2) := dk_21 8 (dk_at dksX11_ride_4 1 rfl rfl)
theorem dX11_ride_99 : decode cX11_ride 99 = .ok (.iaload, 1) := dk_46 (dk_at dksX11_ride_4 3 rfl rfl)
theorem dX11_ride_100 : decode cX11_ride 100 = .ok (.aload_n 0, 1) := dk_42 (dk_at dksX11_ride_4 4 rfl rfl)
theorem dX11_ride_101 : decode cX11_ride 101 = .ok (.getfield 59, 3) := dk_180 0 59 (dk_at dksX11_ride_4 5 rfl rfl)
theorem dX11_ride_104 : decode cX11_ride 104 = .ok (.iload_n 1, 1) := dk_27 (dk_at dksX11_ride_4 8 rfl rfl)
theorem dX11_ride_105 : decode cX11_ride 105 = .ok (.aaload, 1) := dk_50 (dk_at dksX11_ride_4 9 rfl rfl)
theorem dX11_ride_106 : decode cX11_ride 106 = .ok (.iload 7, 2) := dk_21 7 (dk_at dksX11_ride_4 10 rfl rfl)
theorem dX11_ride_108 : decode cX11_ride 108 = .ok (.iaload, 1) := dk_46 (dk_at dksX11_ride_4 12 rfl rfl)
theorem dX11_ride_109 : decode cX11_ride 109 = .ok (.if_icmp .gt 7, 3) := dk_163 0 7 (dk_at dksX11_ride_4 13 rfl rfl)
theorem dX11_ride_112 : decode cX11_ride 112 = .ok (.iconst 1, 1) := dk_4 (dk_at dksX11_ride_4 16 rfl rfl)
theorem dX11_ride_113 : decode cX11_ride 113 = .ok (.goto 4, 3) := dk_167 0 4 (dk_at dksX11_ride_4 17 rfl rfl)
theorem dX11_ride_116 : decode cX11_ride 116 = .ok (.iconst 0, 1) := dk_3 (dk_at dksX11_ride_4 20 rfl rfl)
theorem dX11_ride_117 : decode cX11_ride 117 = .ok (.ior, 1) := dk_128 (dk_at dksX11_ride_4 21 rfl rfl)
theorem dX11_ride_118 : decode cX11_ride 118 = .ok (.istore 5, 2) := dk_54 5 (dk_at dksX11_ride_4 22 rfl rfl)
theorem dX11_ride_120 : decode cX11_ride 120 = .ok (.iinc 7 1, 3) := dk_132 7 1 (dk_at dksX11_ride_5 0 rfl rfl)
theorem dX11_ride_123 : decode cX11_ride 123 = .ok (.goto (-93), 3) := dk_167 255 163 (dk_at dksX11_ride_5 3 rfl rfl)
theorem dX11_ride_126 : decode cX11_ride 126 = .ok (.iload 6, 2) := dk_21 6 (dk_at dksX11_ride_5 6 rfl rfl)
theorem dX11_ride_128 : decode cX11_ride 128 = .ok (.ireturn, 1) := dk_172 (dk_at dksX11_ride_5 8 rfl rfl)
abbrev cX11_homes : ByteArray := prog_5_method_14_code
def yX11_homes : MethodName := ⟨RX11, "homes", "()I"⟩
def dkwX11_homes_2 : List UInt8 := [162, 0, 6, 132, 1, 1, 132, 2, 1, 167, 255, 203, 27, 172]
abbrev dktX11_homes_2 : List UInt8 := dkwX11_homes_2 ++ []
def dkwX11_homes_1 : List UInt8 := [42, 180, 0, 3, 180, 0, 69, 180, 0, 171, 28, 185, 0, 97, 2, 0, 192, 0, 174, 182, 0, 175, 18, 158]
abbrev dktX11_homes_1 : List UInt8 := dkwX11_homes_1 ++ dktX11_homes_2
def dkwX11_homes_0 : List UInt8 := [3, 60, 3, 61, 28, 42, 180, 0, 3, 180, 0, 69, 180, 0, 171, 185, 0, 131, 1, 0, 162, 0, 40, 42]
abbrev dktX11_homes_0 : List UInt8 := dkwX11_homes_0 ++ dktX11_homes_1
theorem dksX11_homes_0 : cX11_homes.data.toList.drop 0 = dktX11_homes_0 := by decide +kernel
theorem dksX11_homes_1 : cX11_homes.data.toList.drop 24 = dktX11_homes_1 := dk_seg dksX11_homes_0 24 rfl rfl
theorem dksX11_homes_2 : cX11_homes.data.toList.drop 48 = dktX11_homes_2 := dk_seg dksX11_homes_1 24 rfl rfl
theorem dX11_homes_0 : decode cX11_homes 0 = .ok (.iconst 0, 1) := dk_3 (dk_at dksX11_homes_0 0 rfl rfl)
theorem dX11_homes_1 : decode cX11_homes 1 = .ok (.istore_n 1, 1) := dk_60 (dk_at dksX11_homes_0 1 rfl rfl)
theorem dX11_homes_2 : decode cX11_homes 2 = .ok (.iconst 0, 1) := dk_3 (dk_at dksX11_homes_0 2 rfl rfl)
theorem dX11_homes_3 : decode cX11_homes 3 = .ok (.istore_n 2, 1) := dk_61 (dk_at dksX11_homes_0 3 rfl rfl)
theorem dX11_homes_4 : decode cX11_homes 4 = .ok (.iload_n 2, 1) := dk_28 (dk_at dksX11_homes_0 4 rfl rfl)
theorem dX11_homes_5 : decode cX11_homes 5 = .ok (.aload_n 0, 1) := dk_42 (dk_at dksX11_homes_0 5 rfl rfl)
theorem dX11_homes_6 : decode cX11_homes 6 = .ok (.getfield 3, 3) := dk_180 0 3 (dk_at dksX11_homes_0 6 rfl rfl)
theorem dX11_homes_9 : decode cX11_homes 9 = .ok (.getfield 69, 3) := dk_180 0 69 (dk_at dksX11_homes_0 9 rfl rfl)
theorem dX11_homes_12 : decode cX11_homes 12 = .ok (.getfield 171, 3) := dk_180 0 171 (dk_at dksX11_homes_0 12 rfl rfl)
theorem dX11_homes_15 : decode cX11_homes 15 = .ok (.invokeinterface 131 1, 5) := by decide +kernel
theorem dX11_homes_20 : decode cX11_homes 20 = .ok (.if_icmp .ge 40, 3) := dk_162 0 40 (dk_at dksX11_homes_0 20 rfl rfl)
theorem dX11_homes_23 : decode cX11_homes 23 = .ok (.aload_n 0, 1) := dk_42 (dk_at dksX11_homes_0 23 rfl rfl)
theorem dX11_homes_24 : decode cX11_homes 24 = .ok (.aload_n 0, 1) := dk_42 (dk_at dksX11_homes_1 0 rfl rfl)
theorem dX11_homes_25 : decode cX11_homes 25 = .ok (.getfield 3, 3) := dk_180 0 3 (dk_at dksX11_homes_1 1 rfl rfl)
theorem dX11_homes_28 : decode cX11_homes 28 = .ok (.getfield 69, 3) := dk_180 0 69 (dk_at dksX11_homes_1 4 rfl rfl)
theorem dX11_homes_31 : decode cX11_homes 31 = .ok (.getfield 171, 3) := dk_180 0 171 (dk_at dksX11_homes_1 7 rfl rfl)
theorem dX11_homes_34 : decode cX11_homes 34 = .ok (.iload_n 2, 1) := dk_28 (dk_at dksX11_homes_1 10 rfl rfl)
theorem dX11_homes_35 : decode cX11_homes 35 = .ok (.invokeinterface 97 2, 5) := by decide +kernel
theorem dX11_homes_40 : decode cX11_homes 40 = .ok (.checkcast 174, 3) := dk_192 0 174 (dk_at dksX11_homes_1 16 rfl rfl)
theorem dX11_homes_43 : decode cX11_homes 43 = .ok (.invokevirtual 175, 3) := dk_182 0 175 (dk_at dksX11_homes_1 19 rfl rfl)
theorem dX11_homes_46 : decode cX11_homes 46 = .ok (.ldc 158, 2) := dk_18 158 (dk_at dksX11_homes_1 22 rfl rfl)
theorem dX11_homes_48 : decode cX11_homes 48 = .ok (.if_icmp .ge 6, 3) := dk_162 0 6 (dk_at dksX11_homes_2 0 rfl rfl)
theorem dX11_homes_51 : decode cX11_homes 51 = .ok (.iinc 1 1, 3) := dk_132 1 1 (dk_at dksX11_homes_2 3 rfl rfl)
theorem dX11_homes_54 : decode cX11_homes 54 = .ok (.iinc 2 1, 3) := dk_132 2 1 (dk_at dksX11_homes_2 6 rfl rfl)
theorem dX11_homes_57 : decode cX11_homes 57 = .ok (.goto (-53), 3) := dk_167 255 203 (dk_at dksX11_homes_2 9 rfl rfl)
theorem dX11_homes_60 : decode cX11_homes 60 = .ok (.iload_n 1, 1) := dk_27 (dk_at dksX11_homes_2 12 rfl rfl)
theorem dX11_homes_61 : decode cX11_homes 61 = .ok (.ireturn, 1) := dk_172 (dk_at dksX11_homes_2 13 rfl rfl)
abbrev cX11_where : ByteArray := prog_5_method_8_code
def yX11_where : MethodName := ⟨RX11, "where", "(II)I"⟩
def dkwX11_where_3 : List UInt8 := [182, 0, 124, 153, 0, 10, 45, 21, 4, 182, 0, 83, 172, 132, 4, 1, 167, 255, 194, 2, 172]
abbrev dktX11_where_3 : List UInt8 := dkwX11_where_3 ++ []
def dkwX11_where_2 : List UInt8 := [21, 4, 46, 161, 0, 32, 28, 42, 180, 0, 59, 27, 50, 21, 4, 46, 164, 0, 12, 45, 21, 4]
abbrev dktX11_where_2 : List UInt8 := dkwX11_where_2 ++ dktX11_where_3
def dkwX11_where_1 : List UInt8 := [21, 4, 45, 182, 0, 138, 162, 0, 59, 42, 27, 182, 0, 135, 153, 0, 51, 28, 42, 180, 0, 56, 27, 50]
abbrev dktX11_where_1 : List UInt8 := dkwX11_where_1 ++ dktX11_where_2
def dkwX11_where_0 : List UInt8 := [42, 180, 0, 3, 180, 0, 69, 180, 0, 118, 27, 185, 0, 97, 2, 0, 192, 0, 79, 78, 3, 54, 4]
abbrev dktX11_where_0 : List UInt8 := dkwX11_where_0 ++ dktX11_where_1
theorem dksX11_where_0 : cX11_where.data.toList.drop 0 = dktX11_where_0 := by decide +kernel
theorem dksX11_where_1 : cX11_where.data.toList.drop 23 = dktX11_where_1 := dk_seg dksX11_where_0 23 rfl rfl
theorem dksX11_where_2 : cX11_where.data.toList.drop 47 = dktX11_where_2 := dk_seg dksX11_where_1 24 rfl rfl
theorem dksX11_where_3 : cX11_where.data.toList.drop 69 = dktX11_where_3 := dk_seg dksX11_where_2 22 rfl rfl
theorem dX11_where_0 : decode cX11_where 0 = .ok (.aload_n 0, 1) := dk_42 (dk_at dksX11_where_0 0 rfl rfl)
theorem dX11_where_1 : decode cX11_where 1 = .ok (.getfield 3, 3) := dk_180 0 3 (dk_at dksX11_where_0 1 rfl rfl)
theorem dX11_where_4 : decode cX11_where 4 = .ok (.getfield 69, 3) := dk_180 0 69 (dk_at dksX11_where_0 4 rfl rfl)
theorem dX11_where_7 : decode cX11_where 7 = .ok (.getfield 118, 3) := dk_180 0 118 (dk_at dksX11_where_0 7 rfl rfl)
theorem dX11_where_10 : decode cX11_where 10 = .ok (.iload_n 1, 1) := dk_27 (dk_at dksX11_where_0 10 rfl rfl)
theorem dX11_where_11 : decode cX11_where 11 = .ok (.invokeinterface 97 2, 5) := by decide +kernel
theorem dX11_where_16 : decode cX11_where 16 = .ok (.checkcast 79, 3) := dk_192 0 79 (dk_at dksX11_where_0 16 rfl rfl)
theorem dX11_where_19 : decode cX11_where 19 = .ok (.astore_n 3, 1) := dk_78 (dk_at dksX11_where_0 19 rfl rfl)
theorem dX11_where_20 : decode cX11_where 20 = .ok (.iconst 0, 1) := dk_3 (dk_at dksX11_where_0 20 rfl rfl)
theorem dX11_where_21 : decode cX11_where 21 = .ok (.istore 4, 2) := dk_54 4 (dk_at dksX11_where_0 21 rfl rfl)
theorem dX11_where_23 : decode cX11_where 23 = .ok (.iload 4, 2) := dk_21 4 (dk_at dksX11_where_1 0 rfl rfl)
theorem dX11_where_25 : decode cX11_where 25 = .ok (.aload_n 3, 1) := dk_45 (dk_at dksX11_where_1 2 rfl rfl)
theorem dX11_where_26 : decode cX11_where 26 = .ok (.invokevirtual 138, 3) := dk_182 0 138 (dk_at dksX11_where_1 3 rfl rfl)
theorem dX11_where_29 : decode cX11_where 29 = .ok (.if_icmp .ge 59, 3) := dk_162 0 59 (dk_at dksX11_where_1 6 rfl rfl)
theorem dX11_where_32 : decode cX11_where 32 = .ok (.aload_n 0, 1) := dk_42 (dk_at dksX11_where_1 9 rfl rfl)
theorem dX11_where_33 : decode cX11_where 33 = .ok (.iload_n 1, 1) := dk_27 (dk_at dksX11_where_1 10 rfl rfl)
theorem dX11_where_34 : decode cX11_where 34 = .ok (.invokevirtual 135, 3) := dk_182 0 135 (dk_at dksX11_where_1 11 rfl rfl)
theorem dX11_where_37 : decode cX11_where 37 = .ok (.ifCond .eq 51, 3) := dk_153 0 51 (dk_at dksX11_where_1 14 rfl rfl)
theorem dX11_where_40 : decode cX11_where 40 = .ok (.iload_n 2, 1) := dk_28 (dk_at dksX11_where_1 17 rfl rfl)
theorem dX11_where_41 : decode cX11_where 41 = .ok (.aload_n 0, 1) := dk_42 (dk_at dksX11_where_1 18 rfl rfl)
theorem dX11_where_42 : decode cX11_where 42 = .ok (.getfield 56, 3) := dk_180 0 56 (dk_at dksX11_where_1 19 rfl rfl)
theorem dX11_where_45 : decode cX11_where 45 = .ok (.iload_n 1, 1) := dk_27 (dk_at dksX11_where_1 22 rfl rfl)
theorem dX11_where_46 : decode cX11_where 46 = .ok (.aaload, 1) := dk_50 (dk_at dksX11_where_1 23 rfl rfl)
theorem dX11_where_47 : decode cX11_where 47 = .ok (.iload 4, 2) := dk_21 4 (dk_at dksX11_where_2 0 rfl rfl)
theorem dX11_where_49 : decode cX11_where 49 = .ok (.iaload, 1) := dk_46 (dk_at dksX11_where_2 2 rfl rfl)
theorem dX11_where_50 : decode cX11_where 50 = .ok (.if_icmp .lt 32, 3) := dk_161 0 32 (dk_at dksX11_where_2 3 rfl rfl)
theorem dX11_where_53 : decode cX11_where 53 = .ok (.iload_n 2, 1) := dk_28 (dk_at dksX11_where_2 6 rfl rfl)
theorem dX11_where_54 : decode cX11_where 54 = .ok (.aload_n 0, 1) := dk_42 (dk_at dksX11_where_2 7 rfl rfl)
theorem dX11_where_55 : decode cX11_where 55 = .ok (.getfield 59, 3) := dk_180 0 59 (dk_at dksX11_where_2 8 rfl rfl)
theorem dX11_where_58 : decode cX11_where 58 = .ok (.iload_n 1, 1) := dk_27 (dk_at dksX11_where_2 11 rfl rfl)
theorem dX11_where_59 : decode cX11_where 59 = .ok (.aaload, 1) := dk_50 (dk_at dksX11_where_2 12 rfl rfl)
theorem dX11_where_60 : decode cX11_where 60 = .ok (.iload 4, 2) := dk_21 4 (dk_at dksX11_where_2 13 rfl rfl)
theorem dX11_where_62 : decode cX11_where 62 = .ok (.iaload, 1) := dk_46 (dk_at dksX11_where_2 15 rfl rfl)
theorem dX11_where_63 : decode cX11_where 63 = .ok (.if_icmp .le 12, 3) := dk_164 0 12 (dk_at dksX11_where_2 16 rfl rfl)
theorem dX11_where_66 : decode cX11_where 66 = .ok (.aload_n 3, 1) := dk_45 (dk_at dksX11_where_2 19 rfl rfl)
theorem dX11_where_67 : decode cX11_where 67 = .ok (.iload 4, 2) := dk_21 4 (dk_at dksX11_where_2 20 rfl rfl)
theorem dX11_where_69 : decode cX11_where 69 = .ok (.invokevirtual 124, 3) := dk_182 0 124 (dk_at dksX11_where_3 0 rfl rfl)
theorem dX11_where_72 : decode cX11_where 72 = .ok (.ifCond .eq 10, 3) := dk_153 0 10 (dk_at dksX11_where_3 3 rfl rfl)
theorem dX11_where_75 : decode cX11_where 75 = .ok (.aload_n 3, 1) := dk_45 (dk_at dksX11_where_3 6 rfl rfl)
theorem dX11_where_76 : decode cX11_where 76 = .ok (.iload 4, 2) := dk_21 4 (dk_at dksX11_where_3 7 rfl rfl)
theorem dX11_where_78 : decode cX11_where 78 = .ok (.invokevirtual 83, 3) := dk_182 0 83 (dk_at dksX11_where_3 9 rfl rfl)
theorem dX11_where_81 : decode cX11_where 81 = .ok (.ireturn, 1) := dk_172 (dk_at dksX11_where_3 12 rfl rfl)
theorem dX11_where_82 : decode cX11_where 82 = .ok (.iinc 4 1, 3) := dk_132 4 1 (dk_at dksX11_where_3 13 rfl rfl)
theorem dX11_where_85 : decode cX11_where 85 = .ok (.goto (-62), 3) := dk_167 255 194 (dk_at dksX11_where_3 16 rfl rfl)
theorem dX11_where_88 : decode cX11_where 88 = .ok (.iconst (-1), 1) := dk_2 (dk_at dksX11_where_3 19 rfl rfl)
theorem dX11_where_89 : decode cX11_where 89 = .ok (.ireturn, 1) := dk_172 (dk_at dksX11_where_3 20 rfl rfl)
abbrev cX11_together : ByteArray := prog_5_method_9_code
def yX11_together : MethodName := ⟨RX11, "together", "(I)I"⟩
def dkwX11_together_4 : List UInt8 := [167, 255, 199, 21, 5, 153, 0, 6, 132, 2, 1, 132, 3, 1, 167, 255, 157, 28, 172]
abbrev dktX11_together_4 : List UInt8 := dkwX11_together_4 ++ []
def dkwX11_together_3 : List UInt8 := [21, 6, 29, 182, 0, 155, 21, 4, 160, 0, 7, 4, 167, 0, 4, 3, 128, 54, 5, 132, 6, 1]
abbrev dktX11_together_3 : List UInt8 := dkwX11_together_3 ++ dktX11_together_4
def dkwX11_together_2 : List UInt8 := [185, 0, 131, 1, 0, 162, 0, 43, 21, 4, 2, 159, 0, 37, 21, 5, 21, 6, 27, 159, 0, 19, 42]
abbrev dktX11_together_2 : List UInt8 := dkwX11_together_2 ++ dktX11_together_3
def dkwX11_together_1 : List UInt8 := [54, 4, 3, 54, 5, 3, 54, 6, 21, 6, 42, 180, 0, 3, 180, 0, 69, 180, 0, 118]
abbrev dktX11_together_1 : List UInt8 := dkwX11_together_1 ++ dktX11_together_2
def dkwX11_together_0 : List UInt8 := [3, 61, 3, 62, 29, 42, 180, 0, 3, 180, 0, 69, 180, 0, 152, 163, 0, 91, 42, 27, 29, 182, 0, 155]
abbrev dktX11_together_0 : List UInt8 := dkwX11_together_0 ++ dktX11_together_1
theorem dksX11_together_0 : cX11_together.data.toList.drop 0 = dktX11_together_0 := by decide +kernel
theorem dksX11_together_1 : cX11_together.data.toList.drop 24 = dktX11_together_1 := dk_seg dksX11_together_0 24 rfl rfl
theorem dksX11_together_2 : cX11_together.data.toList.drop 44 = dktX11_together_2 := dk_seg dksX11_together_1 20 rfl rfl
theorem dksX11_together_3 : cX11_together.data.toList.drop 67 = dktX11_together_3 := dk_seg dksX11_together_2 23 rfl rfl
theorem dksX11_together_4 : cX11_together.data.toList.drop 89 = dktX11_together_4 := dk_seg dksX11_together_3 22 rfl rfl
theorem dX11_together_0 : decode cX11_together 0 = .ok (.iconst 0, 1) := dk_3 (dk_at dksX11_together_0 0 rfl rfl)
theorem dX11_together_1 : decode cX11_together 1 = .ok (.istore_n 2, 1) := dk_61 (dk_at dksX11_together_0 1 rfl rfl)
theorem dX11_together_2 : decode cX11_together 2 = .ok (.iconst 0, 1) := dk_3 (dk_at dksX11_together_0 2 rfl rfl)
theorem dX11_together_3 : decode cX11_together 3 = .ok (.istore_n 3, 1) := dk_62 (dk_at dksX11_together_0 3 rfl rfl)
theorem dX11_together_4 : decode cX11_together 4 = .ok (.iload_n 3, 1) := dk_29 (dk_at dksX11_together_0 4 rfl rfl)
theorem dX11_together_5 : decode cX11_together 5 = .ok (.aload_n 0, 1) := dk_42 (dk_at dksX11_together_0 5 rfl rfl)
theorem dX11_together_6 : decode cX11_together 6 = .ok (.getfield 3, 3) := dk_180 0 3 (dk_at dksX11_together_0 6 rfl rfl)
theorem dX11_together_9 : decode cX11_together 9 = .ok (.getfield 69, 3) := dk_180 0 69 (dk_at dksX11_together_0 9 rfl rfl)
theorem dX11_together_12 : decode cX11_together 12 = .ok (.getfield 152, 3) := dk_180 0 152 (dk_at dksX11_together_0 12 rfl rfl)
theorem dX11_together_15 : decode cX11_together 15 = .ok (.if_icmp .gt 91, 3) := dk_163 0 91 (dk_at dksX11_together_0 15 rfl rfl)
theorem dX11_together_18 : decode cX11_together 18 = .ok (.aload_n 0, 1) := dk_42 (dk_at dksX11_together_0 18 rfl rfl)
theorem dX11_together_19 : decode cX11_together 19 = .ok (.iload_n 1, 1) := dk_27 (dk_at dksX11_together_0 19 rfl rfl)
theorem dX11_together_20 : decode cX11_together 20 = .ok (.iload_n 3, 1) := dk_29 (dk_at dksX11_together_0 20 rfl rfl)
theorem dX11_together_21 : decode cX11_together 21 = .ok (.invokevirtual 155, 3) := dk_182 0 155 (dk_at dksX11_together_0 21 rfl rfl)
theorem dX11_together_24 : decode cX11_together 24 = .ok (.istore 4, 2) := dk_54 4 (dk_at dksX11_together_1 0 rfl rfl)
theorem dX11_together_26 : decode cX11_together 26 = .ok (.iconst 0, 1) := dk_3 (dk_at dksX11_together_1 2 rfl rfl)
theorem dX11_together_27 : decode cX11_together 27 = .ok (.istore 5, 2) := dk_54 5 (dk_at dksX11_together_1 3 rfl rfl)
theorem dX11_together_29 : decode cX11_together 29 = .ok (.iconst 0, 1) := dk_3 (dk_at dksX11_together_1 5 rfl rfl)
theorem dX11_together_30 : decode cX11_together 30 = .ok (.istore 6, 2) := dk_54 6 (dk_at dksX11_together_1 6 rfl rfl)
theorem dX11_together_32 : decode cX11_together 32 = .ok (.iload 6, 2) := dk_21 6 (dk_at dksX11_together_1 8 rfl rfl)
theorem dX11_together_34 : decode cX11_together 34 = .ok (.aload_n 0, 1) := dk_42 (dk_at dksX11_together_1 10 rfl rfl)
theorem dX11_together_35 : decode cX11_together 35 = .ok (.getfield 3, 3) := dk_180 0 3 (dk_at dksX11_together_1 11 rfl rfl)
theorem dX11_together_38 : decode cX11_together 38 = .ok (.getfield 69, 3) := dk_180 0 69 (dk_at dksX11_together_1 14 rfl rfl)
theorem dX11_together_41 : decode cX11_together 41 = .ok (.getfield 118, 3) := dk_180 0 118 (dk_at dksX11_together_1 17 rfl rfl)
theorem dX11_together_44 : decode cX11_together 44 = .ok (.invokeinterface 131 1, 5) := by decide +kernel
theorem dX11_together_49 : decode cX11_together 49 = .ok (.if_icmp .ge 43, 3) := dk_162 0 43 (dk_at dksX11_together_2 5 rfl rfl)
theorem dX11_together_52 : decode cX11_together 52 = .ok (.iload 4, 2) := dk_21 4 (dk_at dksX11_together_2 8 rfl rfl)
theorem dX11_together_54 : decode cX11_together 54 = .ok (.iconst (-1), 1) := dk_2 (dk_at dksX11_together_2 10 rfl rfl)
theorem dX11_together_55 : decode cX11_together 55 = .ok (.if_icmp .eq 37, 3) := dk_159 0 37 (dk_at dksX11_together_2 11 rfl rfl)
theorem dX11_together_58 : decode cX11_together 58 = .ok (.iload 5, 2) := dk_21 5 (dk_at dksX11_together_2 14 rfl rfl)
theorem dX11_together_60 : decode cX11_together 60 = .ok (.iload 6, 2) := dk_21 6 (dk_at dksX11_together_2 16 rfl rfl)
theorem dX11_together_62 : decode cX11_together 62 = .ok (.iload_n 1, 1) := dk_27 (dk_at dksX11_together_2 18 rfl rfl)
theorem dX11_together_63 : decode cX11_together 63 = .ok (.if_icmp .eq 19, 3) := dk_159 0 19 (dk_at dksX11_together_2 19 rfl rfl)
theorem dX11_together_66 : decode cX11_together 66 = .ok (.aload_n 0, 1) := dk_42 (dk_at dksX11_together_2 22 rfl rfl)
theorem dX11_together_67 : decode cX11_together 67 = .ok (.iload 6, 2) := dk_21 6 (dk_at dksX11_together_3 0 rfl rfl)
theorem dX11_together_69 : decode cX11_together 69 = .ok (.iload_n 3, 1) := dk_29 (dk_at dksX11_together_3 2 rfl rfl)
theorem dX11_together_70 : decode cX11_together 70 = .ok (.invokevirtual 155, 3) := dk_182 0 155 (dk_at dksX11_together_3 3 rfl rfl)
theorem dX11_together_73 : decode cX11_together 73 = .ok (.iload 4, 2) := dk_21 4 (dk_at dksX11_together_3 6 rfl rfl)
theorem dX11_together_75 : decode cX11_together 75 = .ok (.if_icmp .ne 7, 3) := dk_160 0 7 (dk_at dksX11_together_3 8 rfl rfl)
theorem dX11_together_78 : decode cX11_together 78 = .ok (.iconst 1, 1) := dk_4 (dk_at dksX11_together_3 11 rfl rfl)
theorem dX11_together_79 : decode cX11_together 79 = .ok (.goto 4, 3) := dk_167 0 4 (dk_at dksX11_together_3 12 rfl rfl)
theorem dX11_together_82 : decode cX11_together 82 = .ok (.iconst 0, 1) := dk_3 (dk_at dksX11_together_3 15 rfl rfl)
theorem dX11_together_83 : decode cX11_together 83 = .ok (.ior, 1) := dk_128 (dk_at dksX11_together_3 16 rfl rfl)
theorem dX11_together_84 : decode cX11_together 84 = .ok (.istore 5, 2) := dk_54 5 (dk_at dksX11_together_3 17 rfl rfl)
theorem dX11_together_86 : decode cX11_together 86 = .ok (.iinc 6 1, 3) := dk_132 6 1 (dk_at dksX11_together_3 19 rfl rfl)
theorem dX11_together_89 : decode cX11_together 89 = .ok (.goto (-57), 3) := dk_167 255 199 (dk_at dksX11_together_4 0 rfl rfl)
theorem dX11_together_92 : decode cX11_together 92 = .ok (.iload 5, 2) := dk_21 5 (dk_at dksX11_together_4 3 rfl rfl)
theorem dX11_together_94 : decode cX11_together 94 = .ok (.ifCond .eq 6, 3) := dk_153 0 6 (dk_at dksX11_together_4 5 rfl rfl)
theorem dX11_together_97 : decode cX11_together 97 = .ok (.iinc 2 1, 3) := dk_132 2 1 (dk_at dksX11_together_4 8 rfl rfl)
theorem dX11_together_100 : decode cX11_together 100 = .ok (.iinc 3 1, 3) := dk_132 3 1 (dk_at dksX11_together_4 11 rfl rfl)
theorem dX11_together_103 : decode cX11_together 103 = .ok (.goto (-99), 3) := dk_167 255 157 (dk_at dksX11_together_4 14 rfl rfl)
theorem dX11_together_106 : decode cX11_together 106 = .ok (.iload_n 2, 1) := dk_28 (dk_at dksX11_together_4 17 rfl rfl)
theorem dX11_together_107 : decode cX11_together 107 = .ok (.ireturn, 1) := dk_172 (dk_at dksX11_together_4 18 rfl rfl)
abbrev cX11_rides : ByteArray := prog_5_method_15_code
def yX11_rides : MethodName := ⟨RX11, "rides", "([I)I"⟩
def dkwX11_rides_5 : List UInt8 := [44, 21, 5, 45, 21, 5, 46, 79, 132, 5, 1, 167, 255, 238, 132, 4, 1, 167, 255, 139, 18, 158, 172]
abbrev dktX11_rides_5 : List UInt8 := dkwX11_rides_5 ++ []
def dkwX11_rides_4 : List UInt8 := [21, 5, 44, 45, 182, 0, 163, 87, 132, 5, 1, 167, 255, 224, 3, 54, 5, 21, 5, 16, 10, 162, 0, 17]
abbrev dktX11_rides_4 : List UInt8 := dkwX11_rides_4 ++ dktX11_rides_5
def dkwX11_rides_3 : List UInt8 := [3, 54, 5, 21, 5, 42, 180, 0, 3, 180, 0, 69, 180, 0, 118, 185, 0, 131, 1, 0, 162, 0, 18, 42]
abbrev dktX11_rides_3 : List UInt8 := dkwX11_rides_3 ++ dktX11_rides_4
def dkwX11_rides_2 : List UInt8 := [3, 54, 5, 21, 5, 16, 10, 162, 0, 17, 45, 21, 5, 44, 21, 5, 46, 79, 132, 5, 1, 167, 255, 238]
abbrev dktX11_rides_2 : List UInt8 := dkwX11_rides_2 ++ dktX11_rides_3
def dkwX11_rides_1 : List UInt8 := [163, 0, 116, 44, 43, 4, 46, 46, 42, 180, 0, 3, 180, 0, 69, 180, 0, 152, 163, 0, 6, 21, 4, 172]
abbrev dktX11_rides_1 : List UInt8 := dkwX11_rides_1 ++ dktX11_rides_2
def dkwX11_rides_0 : List UInt8 := [16, 10, 188, 10, 77, 16, 10, 188, 10, 78, 42, 44, 43, 182, 0, 159, 3, 54, 4, 21, 4, 16, 10]
abbrev dktX11_rides_0 : List UInt8 := dkwX11_rides_0 ++ dktX11_rides_1
theorem dksX11_rides_0 : cX11_rides.data.toList.drop 0 = dktX11_rides_0 := by decide +kernel
theorem dksX11_rides_1 : cX11_rides.data.toList.drop 23 = dktX11_rides_1 := dk_seg dksX11_rides_0 23 rfl rfl
theorem dksX11_rides_2 : cX11_rides.data.toList.drop 47 = dktX11_rides_2 := dk_seg dksX11_rides_1 24 rfl rfl
theorem dksX11_rides_3 : cX11_rides.data.toList.drop 71 = dktX11_rides_3 := dk_seg dksX11_rides_2 24 rfl rfl
theorem dksX11_rides_4 : cX11_rides.data.toList.drop 95 = dktX11_rides_4 := dk_seg dksX11_rides_3 24 rfl rfl
theorem dksX11_rides_5 : cX11_rides.data.toList.drop 119 = dktX11_rides_5 := dk_seg dksX11_rides_4 24 rfl rfl
theorem dX11_rides_0 : decode cX11_rides 0 = .ok (.bipush 10, 2) := dk_16 10 (dk_at dksX11_rides_0 0 rfl rfl)
theorem dX11_rides_2 : decode cX11_rides 2 = .ok (.newarray .int, 2) := dk_188_10 (dk_at dksX11_rides_0 2 rfl rfl)
theorem dX11_rides_4 : decode cX11_rides 4 = .ok (.astore_n 2, 1) := dk_77 (dk_at dksX11_rides_0 4 rfl rfl)
theorem dX11_rides_5 : decode cX11_rides 5 = .ok (.bipush 10, 2) := dk_16 10 (dk_at dksX11_rides_0 5 rfl rfl)
theorem dX11_rides_7 : decode cX11_rides 7 = .ok (.newarray .int, 2) := dk_188_10 (dk_at dksX11_rides_0 7 rfl rfl)
theorem dX11_rides_9 : decode cX11_rides 9 = .ok (.astore_n 3, 1) := dk_78 (dk_at dksX11_rides_0 9 rfl rfl)
theorem dX11_rides_10 : decode cX11_rides 10 = .ok (.aload_n 0, 1) := dk_42 (dk_at dksX11_rides_0 10 rfl rfl)
theorem dX11_rides_11 : decode cX11_rides 11 = .ok (.aload_n 2, 1) := dk_44 (dk_at dksX11_rides_0 11 rfl rfl)
theorem dX11_rides_12 : decode cX11_rides 12 = .ok (.aload_n 1, 1) := dk_43 (dk_at dksX11_rides_0 12 rfl rfl)
theorem dX11_rides_13 : decode cX11_rides 13 = .ok (.invokevirtual 159, 3) := dk_182 0 159 (dk_at dksX11_rides_0 13 rfl rfl)
theorem dX11_rides_16 : decode cX11_rides 16 = .ok (.iconst 0, 1) := dk_3 (dk_at dksX11_rides_0 16 rfl rfl)
theorem dX11_rides_17 : decode cX11_rides 17 = .ok (.istore 4, 2) := dk_54 4 (dk_at dksX11_rides_0 17 rfl rfl)
theorem dX11_rides_19 : decode cX11_rides 19 = .ok (.iload 4, 2) := dk_21 4 (dk_at dksX11_rides_0 19 rfl rfl)
theorem dX11_rides_21 : decode cX11_rides 21 = .ok (.bipush 10, 2) := dk_16 10 (dk_at dksX11_rides_0 21 rfl rfl)
theorem dX11_rides_23 : decode cX11_rides 23 = .ok (.if_icmp .gt 116, 3) := dk_163 0 116 (dk_at dksX11_rides_1 0 rfl rfl)
theorem dX11_rides_26 : decode cX11_rides 26 = .ok (.aload_n 2, 1) := dk_44 (dk_at dksX11_rides_1 3 rfl rfl)
theorem dX11_rides_27 : decode cX11_rides 27 = .ok (.aload_n 1, 1) := dk_43 (dk_at dksX11_rides_1 4 rfl rfl)
theorem dX11_rides_28 : decode cX11_rides 28 = .ok (.iconst 1, 1) := dk_4 (dk_at dksX11_rides_1 5 rfl rfl)
theorem dX11_rides_29 : decode cX11_rides 29 = .ok (.iaload, 1) := dk_46 (dk_at dksX11_rides_1 6 rfl rfl)
theorem dX11_rides_30 : decode cX11_rides 30 = .ok (.iaload, 1) := dk_46 (dk_at dksX11_rides_1 7 rfl rfl)
theorem dX11_rides_31 : decode cX11_rides 31 = .ok (.aload_n 0, 1) := dk_42 (dk_at dksX11_rides_1 8 rfl rfl)
theorem dX11_rides_32 : decode cX11_rides 32 = .ok (.getfield 3, 3) := dk_180 0 3 (dk_at dksX11_rides_1 9 rfl rfl)
theorem dX11_rides_35 : decode cX11_rides 35 = .ok (.getfield 69, 3) := dk_180 0 69 (dk_at dksX11_rides_1 12 rfl rfl)
theorem dX11_rides_38 : decode cX11_rides 38 = .ok (.getfield 152, 3) := dk_180 0 152 (dk_at dksX11_rides_1 15 rfl rfl)
theorem dX11_rides_41 : decode cX11_rides 41 = .ok (.if_icmp .gt 6, 3) := dk_163 0 6 (dk_at dksX11_rides_1 18 rfl rfl)
theorem dX11_rides_44 : decode cX11_rides 44 = .ok (.iload 4, 2) := dk_21 4 (dk_at dksX11_rides_1 21 rfl rfl)
theorem dX11_rides_46 : decode cX11_rides 46 = .ok (.ireturn, 1) := dk_172 (dk_at dksX11_rides_1 23 rfl rfl)
theorem dX11_rides_47 : decode cX11_rides 47 = .ok (.iconst 0, 1) := dk_3 (dk_at dksX11_rides_2 0 rfl rfl)
theorem dX11_rides_48 : decode cX11_rides 48 = .ok (.istore 5, 2) := dk_54 5 (dk_at dksX11_rides_2 1 rfl rfl)
theorem dX11_rides_50 : decode cX11_rides 50 = .ok (.iload 5, 2) := dk_21 5 (dk_at dksX11_rides_2 3 rfl rfl)
theorem dX11_rides_52 : decode cX11_rides 52 = .ok (.bipush 10, 2) := dk_16 10 (dk_at dksX11_rides_2 5 rfl rfl)
theorem dX11_rides_54 : decode cX11_rides 54 = .ok (.if_icmp .ge 17, 3) := dk_162 0 17 (dk_at dksX11_rides_2 7 rfl rfl)
theorem dX11_rides_57 : decode cX11_rides 57 = .ok (.aload_n 3, 1) := dk_45 (dk_at dksX11_rides_2 10 rfl rfl)
theorem dX11_rides_58 : decode cX11_rides 58 = .ok (.iload 5, 2) := dk_21 5 (dk_at dksX11_rides_2 11 rfl rfl)
theorem dX11_rides_60 : decode cX11_rides 60 = .ok (.aload_n 2, 1) := dk_44 (dk_at dksX11_rides_2 13 rfl rfl)
theorem dX11_rides_61 : decode cX11_rides 61 = .ok (.iload 5, 2) := dk_21 5 (dk_at dksX11_rides_2 14 rfl rfl)
theorem dX11_rides_63 : decode cX11_rides 63 = .ok (.iaload, 1) := dk_46 (dk_at dksX11_rides_2 16 rfl rfl)
theorem dX11_rides_64 : decode cX11_rides 64 = .ok (.iastore, 1) := dk_79 (dk_at dksX11_rides_2 17 rfl rfl)
theorem dX11_rides_65 : decode cX11_rides 65 = .ok (.iinc 5 1, 3) := dk_132 5 1 (dk_at dksX11_rides_2 18 rfl rfl)
theorem dX11_rides_68 : decode cX11_rides 68 = .ok (.goto (-18), 3) := dk_167 255 238 (dk_at dksX11_rides_2 21 rfl rfl)
theorem dX11_rides_71 : decode cX11_rides 71 = .ok (.iconst 0, 1) := dk_3 (dk_at dksX11_rides_3 0 rfl rfl)
theorem dX11_rides_72 : decode cX11_rides 72 = .ok (.istore 5, 2) := dk_54 5 (dk_at dksX11_rides_3 1 rfl rfl)
theorem dX11_rides_74 : decode cX11_rides 74 = .ok (.iload 5, 2) := dk_21 5 (dk_at dksX11_rides_3 3 rfl rfl)
theorem dX11_rides_76 : decode cX11_rides 76 = .ok (.aload_n 0, 1) := dk_42 (dk_at dksX11_rides_3 5 rfl rfl)
theorem dX11_rides_77 : decode cX11_rides 77 = .ok (.getfield 3, 3) := dk_180 0 3 (dk_at dksX11_rides_3 6 rfl rfl)
theorem dX11_rides_80 : decode cX11_rides 80 = .ok (.getfield 69, 3) := dk_180 0 69 (dk_at dksX11_rides_3 9 rfl rfl)
theorem dX11_rides_83 : decode cX11_rides 83 = .ok (.getfield 118, 3) := dk_180 0 118 (dk_at dksX11_rides_3 12 rfl rfl)
theorem dX11_rides_86 : decode cX11_rides 86 = .ok (.invokeinterface 131 1, 5) := by decide +kernel
theorem dX11_rides_91 : decode cX11_rides 91 = .ok (.if_icmp .ge 18, 3) := dk_162 0 18 (dk_at dksX11_rides_3 20 rfl rfl)
theorem dX11_rides_94 : decode cX11_rides 94 = .ok (.aload_n 0, 1) := dk_42 (dk_at dksX11_rides_3 23 rfl rfl)
theorem dX11_rides_95 : decode cX11_rides 95 = .ok (.iload 5, 2) := dk_21 5 (dk_at dksX11_rides_4 0 rfl rfl)
theorem dX11_rides_97 : decode cX11_rides 97 = .ok (.aload_n 2, 1) := dk_44 (dk_at dksX11_rides_4 2 rfl rfl)
theorem dX11_rides_98 : decode cX11_rides 98 = .ok (.aload_n 3, 1) := dk_45 (dk_at dksX11_rides_4 3 rfl rfl)
theorem dX11_rides_99 : decode cX11_rides 99 = .ok (.invokevirtual 163, 3) := dk_182 0 163 (dk_at dksX11_rides_4 4 rfl rfl)
theorem dX11_rides_102 : decode cX11_rides 102 = .ok (.pop, 1) := dk_87 (dk_at dksX11_rides_4 7 rfl rfl)
theorem dX11_rides_103 : decode cX11_rides 103 = .ok (.iinc 5 1, 3) := dk_132 5 1 (dk_at dksX11_rides_4 8 rfl rfl)
theorem dX11_rides_106 : decode cX11_rides 106 = .ok (.goto (-32), 3) := dk_167 255 224 (dk_at dksX11_rides_4 11 rfl rfl)
theorem dX11_rides_109 : decode cX11_rides 109 = .ok (.iconst 0, 1) := dk_3 (dk_at dksX11_rides_4 14 rfl rfl)
theorem dX11_rides_110 : decode cX11_rides 110 = .ok (.istore 5, 2) := dk_54 5 (dk_at dksX11_rides_4 15 rfl rfl)
theorem dX11_rides_112 : decode cX11_rides 112 = .ok (.iload 5, 2) := dk_21 5 (dk_at dksX11_rides_4 17 rfl rfl)
theorem dX11_rides_114 : decode cX11_rides 114 = .ok (.bipush 10, 2) := dk_16 10 (dk_at dksX11_rides_4 19 rfl rfl)
theorem dX11_rides_116 : decode cX11_rides 116 = .ok (.if_icmp .ge 17, 3) := dk_162 0 17 (dk_at dksX11_rides_4 21 rfl rfl)
theorem dX11_rides_119 : decode cX11_rides 119 = .ok (.aload_n 2, 1) := dk_44 (dk_at dksX11_rides_5 0 rfl rfl)
theorem dX11_rides_120 : decode cX11_rides 120 = .ok (.iload 5, 2) := dk_21 5 (dk_at dksX11_rides_5 1 rfl rfl)
theorem dX11_rides_122 : decode cX11_rides 122 = .ok (.aload_n 3, 1) := dk_45 (dk_at dksX11_rides_5 3 rfl rfl)
theorem dX11_rides_123 : decode cX11_rides 123 = .ok (.iload 5, 2) := dk_21 5 (dk_at dksX11_rides_5 4 rfl rfl)
theorem dX11_rides_125 : decode cX11_rides 125 = .ok (.iaload, 1) := dk_46 (dk_at dksX11_rides_5 6 rfl rfl)
theorem dX11_rides_126 : decode cX11_rides 126 = .ok (.iastore, 1) := dk_79 (dk_at dksX11_rides_5 7 rfl rfl)
theorem dX11_rides_127 : decode cX11_rides 127 = .ok (.iinc 5 1, 3) := dk_132 5 1 (dk_at dksX11_rides_5 8 rfl rfl)
theorem dX11_rides_130 : decode cX11_rides 130 = .ok (.goto (-18), 3) := dk_167 255 238 (dk_at dksX11_rides_5 11 rfl rfl)
theorem dX11_rides_133 : decode cX11_rides 133 = .ok (.iinc 4 1, 3) := dk_132 4 1 (dk_at dksX11_rides_5 14 rfl rfl)
theorem dX11_rides_136 : decode cX11_rides 136 = .ok (.goto (-117), 3) := dk_167 255 139 (dk_at dksX11_rides_5 17 rfl rfl)
theorem dX11_rides_139 : decode cX11_rides 139 = .ok (.ldc 158, 2) := dk_18 158 (dk_at dksX11_rides_5 20 rfl rfl)
theorem dX11_rides_141 : decode cX11_rides 141 = .ok (.ireturn, 1) := dk_172 (dk_at dksX11_rides_5 22 rfl rfl)
abbrev cX11_cheapest : ByteArray := prog_5_method_16_code
def yX11_cheapest : MethodName := ⟨RX11, "cheapest", "([I)I"⟩
def dkwX11_cheapest_7 : List UInt8 := [180, 0, 69, 180, 0, 152, 163, 0, 5, 29, 172, 132, 3, 1, 167, 255, 90, 18, 158, 172]
abbrev dktX11_cheapest_7 : List UInt8 := dkwX11_cheapest_7 ++ []
def dkwX11_cheapest_6 : List UInt8 := [44, 29, 50, 182, 0, 163, 87, 132, 4, 1, 167, 255, 169, 44, 29, 50, 43, 4, 46, 46, 42, 180, 0, 3]
abbrev dktX11_cheapest_6 : List UInt8 := dkwX11_cheapest_6 ++ dktX11_cheapest_7
def dkwX11_cheapest_5 : List UInt8 := [180, 0, 3, 180, 0, 69, 180, 0, 118, 21, 4, 185, 0, 97, 2, 0, 192, 0, 79, 182, 0, 178, 100, 50]
abbrev dktX11_cheapest_5 : List UInt8 := dkwX11_cheapest_5 ++ dktX11_cheapest_6
def dkwX11_cheapest_4 : List UInt8 := [21, 4, 185, 0, 97, 2, 0, 192, 0, 79, 182, 0, 178, 29, 163, 0, 40, 42, 21, 4, 44, 29, 42]
abbrev dktX11_cheapest_4 : List UInt8 := dkwX11_cheapest_4 ++ dktX11_cheapest_5
def dkwX11_cheapest_3 : List UInt8 := [180, 0, 69, 180, 0, 118, 185, 0, 131, 1, 0, 162, 0, 73, 42, 180, 0, 3, 180, 0, 69, 180, 0, 118]
abbrev dktX11_cheapest_3 : List UInt8 := dkwX11_cheapest_3 ++ dktX11_cheapest_4
def dkwX11_cheapest_2 : List UInt8 := [4, 100, 50, 21, 4, 46, 79, 132, 4, 1, 167, 255, 228, 3, 54, 4, 21, 4, 42, 180, 0, 3]
abbrev dktX11_cheapest_2 : List UInt8 := dkwX11_cheapest_2 ++ dktX11_cheapest_3
def dkwX11_cheapest_1 : List UInt8 := [182, 0, 159, 3, 54, 4, 21, 4, 16, 10, 162, 0, 27, 29, 158, 0, 23, 44, 29, 50, 21, 4, 44, 29]
abbrev dktX11_cheapest_1 : List UInt8 := dkwX11_cheapest_1 ++ dktX11_cheapest_2
def dkwX11_cheapest_0 : List UInt8 := [16, 28, 16, 10, 197, 0, 54, 2, 77, 3, 62, 29, 16, 27, 163, 0, 166, 42, 44, 29, 50, 43]
abbrev dktX11_cheapest_0 : List UInt8 := dkwX11_cheapest_0 ++ dktX11_cheapest_1
theorem dksX11_cheapest_0 : cX11_cheapest.data.toList.drop 0 = dktX11_cheapest_0 := by decide +kernel
theorem dksX11_cheapest_1 : cX11_cheapest.data.toList.drop 22 = dktX11_cheapest_1 := dk_seg dksX11_cheapest_0 22 rfl rfl
theorem dksX11_cheapest_2 : cX11_cheapest.data.toList.drop 46 = dktX11_cheapest_2 := dk_seg dksX11_cheapest_1 24 rfl rfl
theorem dksX11_cheapest_3 : cX11_cheapest.data.toList.drop 68 = dktX11_cheapest_3 := dk_seg dksX11_cheapest_2 22 rfl rfl
theorem dksX11_cheapest_4 : cX11_cheapest.data.toList.drop 92 = dktX11_cheapest_4 := dk_seg dksX11_cheapest_3 24 rfl rfl
theorem dksX11_cheapest_5 : cX11_cheapest.data.toList.drop 115 = dktX11_cheapest_5 := dk_seg dksX11_cheapest_4 23 rfl rfl
theorem dksX11_cheapest_6 : cX11_cheapest.data.toList.drop 139 = dktX11_cheapest_6 := dk_seg dksX11_cheapest_5 24 rfl rfl
theorem dksX11_cheapest_7 : cX11_cheapest.data.toList.drop 163 = dktX11_cheapest_7 := dk_seg dksX11_cheapest_6 24 rfl rfl
theorem dX11_cheapest_0 : decode cX11_cheapest 0 = .ok (.bipush 28, 2) := dk_16 28 (dk_at dksX11_cheapest_0 0 rfl rfl)
theorem dX11_cheapest_2 : decode cX11_cheapest 2 = .ok (.bipush 10, 2) := dk_16 10 (dk_at dksX11_cheapest_0 2 rfl rfl)
theorem dX11_cheapest_4 : decode cX11_cheapest 4 = .ok (.multianewarray 54 2, 4) := by decide +kernel
theorem dX11_cheapest_8 : decode cX11_cheapest 8 = .ok (.astore_n 2, 1) := dk_77 (dk_at dksX11_cheapest_0 8 rfl rfl)
theorem dX11_cheapest_9 : decode cX11_cheapest 9 = .ok (.iconst 0, 1) := dk_3 (dk_at dksX11_cheapest_0 9 rfl rfl)
theorem dX11_cheapest_10 : decode cX11_cheapest 10 = .ok (.istore_n 3, 1) := dk_62 (dk_at dksX11_cheapest_0 10 rfl rfl)
theorem dX11_cheapest_11 : decode cX11_cheapest 11 = .ok (.iload_n 3, 1) := dk_29 (dk_at dksX11_cheapest_0 11 rfl rfl)
theorem dX11_cheapest_12 : decode cX11_cheapest 12 = .ok (.bipush 27, 2) := dk_16 27 (dk_at dksX11_cheapest_0 12 rfl rfl)
theorem dX11_cheapest_14 : decode cX11_cheapest 14 = .ok (.if_icmp .gt 166, 3) := dk_163 0 166 (dk_at dksX11_cheapest_0 14 rfl rfl)
theorem dX11_cheapest_17 : decode cX11_cheapest 17 = .ok (.aload_n 0, 1) := dk_42 (dk_at dksX11_cheapest_0 17 rfl rfl)
theorem dX11_cheapest_18 : decode cX11_cheapest 18 = .ok (.aload_n 2, 1) := dk_44 (dk_at dksX11_cheapest_0 18 rfl rfl)
theorem dX11_cheapest_19 : decode cX11_cheapest 19 = .ok (.iload_n 3, 1) := dk_29 (dk_at dksX11_cheapest_0 19 rfl rfl)
theorem dX11_cheapest_20 : decode cX11_cheapest 20 = .ok (.aaload, 1) := dk_50 (dk_at dksX11_cheapest_0 20 rfl rfl)
theorem dX11_cheapest_21 : decode cX11_cheapest 21 = .ok (.aload_n 1, 1) := dk_43 (dk_at dksX11_cheapest_0 21 rfl rfl)
theorem dX11_cheapest_22 : decode cX11_cheapest 22 = .ok (.invokevirtual 159, 3) := dk_182 0 159 (dk_at dksX11_cheapest_1 0 rfl rfl)
theorem dX11_cheapest_25 : decode cX11_cheapest 25 = .ok (.iconst 0, 1) := dk_3 (dk_at dksX11_cheapest_1 3 rfl rfl)
theorem dX11_cheapest_26 : decode cX11_cheapest 26 = .ok (.istore 4, 2) := dk_54 4 (dk_at dksX11_cheapest_1 4 rfl rfl)
theorem dX11_cheapest_28 : decode cX11_cheapest 28 = .ok (.iload 4, 2) := dk_21 4 (dk_at dksX11_cheapest_1 6 rfl rfl)
theorem dX11_cheapest_30 : decode cX11_cheapest 30 = .ok (.bipush 10, 2) := dk_16 10 (dk_at dksX11_cheapest_1 8 rfl rfl)
theorem dX11_cheapest_32 : decode cX11_cheapest 32 = .ok (.if_icmp .ge 27, 3) := dk_162 0 27 (dk_at dksX11_cheapest_1 10 rfl rfl)
theorem dX11_cheapest_35 : decode cX11_cheapest 35 = .ok (.iload_n 3, 1) := dk_29 (dk_at dksX11_cheapest_1 13 rfl rfl)
theorem dX11_cheapest_36 : decode cX11_cheapest 36 = .ok (.ifCond .le 23, 3) := dk_158 0 23 (dk_at dksX11_cheapest_1 14 rfl rfl)
theorem dX11_cheapest_39 : decode cX11_cheapest 39 = .ok (.aload_n 2, 1) := dk_44 (dk_at dksX11_cheapest_1 17 rfl rfl)
theorem dX11_cheapest_40 : decode cX11_cheapest 40 = .ok (.iload_n 3, 1) := dk_29 (dk_at dksX11_cheapest_1 18 rfl rfl)
theorem dX11_cheapest_41 : decode cX11_cheapest 41 = .ok (.aaload, 1) := dk_50 (dk_at dksX11_cheapest_1 19 rfl rfl)
theorem dX11_cheapest_42 : decode cX11_cheapest 42 = .ok (.iload 4, 2) := dk_21 4 (dk_at dksX11_cheapest_1 20 rfl rfl)
theorem dX11_cheapest_44 : decode cX11_cheapest 44 = .ok (.aload_n 2, 1) := dk_44 (dk_at dksX11_cheapest_1 22 rfl rfl)
theorem dX11_cheapest_45 : decode cX11_cheapest 45 = .ok (.iload_n 3, 1) := dk_29 (dk_at dksX11_cheapest_1 23 rfl rfl)
theorem dX11_cheapest_46 : decode cX11_cheapest 46 = .ok (.iconst 1, 1) := dk_4 (dk_at dksX11_cheapest_2 0 rfl rfl)
theorem dX11_cheapest_47 : decode cX11_cheapest 47 = .ok (.isub, 1) := dk_100 (dk_at dksX11_cheapest_2 1 rfl rfl)
theorem dX11_cheapest_48 : decode cX11_cheapest 48 = .ok (.aaload, 1) := dk_50 (dk_at dksX11_cheapest_2 2 rfl rfl)
theorem dX11_cheapest_49 : decode cX11_cheapest 49 = .ok (.iload 4, 2) := dk_21 4 (dk_at dksX11_cheapest_2 3 rfl rfl)
theorem dX11_cheapest_51 : decode cX11_cheapest 51 = .ok (.iaload, 1) := dk_46 (dk_at dksX11_cheapest_2 5 rfl rfl)
theorem dX11_cheapest_52 : decode cX11_cheapest 52 = .ok (.iastore, 1) := dk_79 (dk_at dksX11_cheapest_2 6 rfl rfl)
theorem dX11_cheapest_53 : decode cX11_cheapest 53 = .ok (.iinc 4 1, 3) := dk_132 4 1 (dk_at dksX11_cheapest_2 7 rfl rfl)
theorem dX11_cheapest_56 : decode cX11_cheapest 56 = .ok (.goto (-28), 3) := dk_167 255 228 (dk_at dksX11_cheapest_2 10 rfl rfl)
theorem dX11_cheapest_59 : decode cX11_cheapest 59 = .ok (.iconst 0, 1) := dk_3 (dk_at dksX11_cheapest_2 13 rfl rfl)
theorem dX11_cheapest_60 : decode cX11_cheapest 60 = .ok (.istore 4, 2) := dk_54 4 (dk_at dksX11_cheapest_2 14 rfl rfl)
theorem dX11_cheapest_62 : decode cX11_cheapest 62 = .ok (.iload 4, 2) := dk_21 4 (dk_at dksX11_cheapest_2 16 rfl rfl)
theorem dX11_cheapest_64 : decode cX11_cheapest 64 = .ok (.aload_n 0, 1) := dk_42 (dk_at dksX11_cheapest_2 18 rfl rfl)
theorem dX11_cheapest_65 : decode cX11_cheapest 65 = .ok (.getfield 3, 3) := dk_180 0 3 (dk_at dksX11_cheapest_2 19 rfl rfl)
theorem dX11_cheapest_68 : decode cX11_cheapest 68 = .ok (.getfield 69, 3) := dk_180 0 69 (dk_at dksX11_cheapest_3 0 rfl rfl)
theorem dX11_cheapest_71 : decode cX11_cheapest 71 = .ok (.getfield 118, 3) := dk_180 0 118 (dk_at dksX11_cheapest_3 3 rfl rfl)
theorem dX11_cheapest_74 : decode cX11_cheapest 74 = .ok (.invokeinterface 131 1, 5) := by decide +kernel
theorem dX11_cheapest_79 : decode cX11_cheapest 79 = .ok (.if_icmp .ge 73, 3) := dk_162 0 73 (dk_at dksX11_cheapest_3 11 rfl rfl)
theorem dX11_cheapest_82 : decode cX11_cheapest 82 = .ok (.aload_n 0, 1) := dk_42 (dk_at dksX11_cheapest_3 14 rfl rfl)
theorem dX11_cheapest_83 : decode cX11_cheapest 83 = .ok (.getfield 3, 3) := dk_180 0 3 (dk_at dksX11_cheapest_3 15 rfl rfl)
theorem dX11_cheapest_86 : decode cX11_cheapest 86 = .ok (.getfield 69, 3) := dk_180 0 69 (dk_at dksX11_cheapest_3 18 rfl rfl)
theorem dX11_cheapest_89 : decode cX11_cheapest 89 = .ok (.getfield 118, 3) := dk_180 0 118 (dk_at dksX11_cheapest_3 21 rfl rfl)
theorem dX11_cheapest_92 : decode cX11_cheapest 92 = .ok (.iload 4, 2) := dk_21 4 (dk_at dksX11_cheapest_4 0 rfl rfl)
theorem dX11_cheapest_94 : decode cX11_cheapest 94 = .ok (.invokeinterface 97 2, 5) := by decide +kernel
theorem dX11_cheapest_99 : decode cX11_cheapest 99 = .ok (.checkcast 79, 3) := dk_192 0 79 (dk_at dksX11_cheapest_4 7 rfl rfl)
theorem dX11_cheapest_102 : decode cX11_cheapest 102 = .ok (.invokevirtual 178, 3) := dk_182 0 178 (dk_at dksX11_cheapest_4 10 rfl rfl)
theorem dX11_cheapest_105 : decode cX11_cheapest 105 = .ok (.iload_n 3, 1) := dk_29 (dk_at dksX11_cheapest_4 13 rfl rfl)
theorem dX11_cheapest_106 : decode cX11_cheapest 106 = .ok (.if_icmp .gt 40, 3) := dk_163 0 40 (dk_at dksX11_cheapest_4 14 rfl rfl)
theorem dX11_cheapest_109 : decode cX11_cheapest 109 = .ok (.aload_n 0, 1) := dk_42 (dk_at dksX11_cheapest_4 17 rfl rfl)
theorem dX11_cheapest_110 : decode cX11_cheapest 110 = .ok (.iload 4, 2) := dk_21 4 (dk_at dksX11_cheapest_4 18 rfl rfl)
theorem dX11_cheapest_112 : decode cX11_cheapest 112 = .ok (.aload_n 2, 1) := dk_44 (dk_at dksX11_cheapest_4 20 rfl rfl)
theorem dX11_cheapest_113 : decode cX11_cheapest 113 = .ok (.iload_n 3, 1) := dk_29 (dk_at dksX11_cheapest_4 21 rfl rfl)
theorem dX11_cheapest_114 : decode cX11_cheapest 114 = .ok (.aload_n 0, 1) := dk_42 (dk_at dksX11_cheapest_4 22 rfl rfl)
theorem dX11_cheapest_115 : decode cX11_cheapest 115 = .ok (.getfield 3, 3) := dk_180 0 3 (dk_at dksX11_cheapest_5 0 rfl rfl)
theorem dX11_cheapest_118 : decode cX11_cheapest 118 = .ok (.getfield 69, 3) := dk_180 0 69 (dk_at dksX11_cheapest_5 3 rfl rfl)
theorem dX11_cheapest_121 : decode cX11_cheapest 121 = .ok (.getfield 118, 3) := dk_180 0 118 (dk_at dksX11_cheapest_5 6 rfl rfl)
theorem dX11_cheapest_124 : decode cX11_cheapest 124 = .ok (.iload 4, 2) := dk_21 4 (dk_at dksX11_cheapest_5 9 rfl rfl)
theorem dX11_cheapest_126 : decode cX11_cheapest 126 = .ok (.invokeinterface 97 2, 5) := by decide +kernel
theorem dX11_cheapest_131 : decode cX11_cheapest 131 = .ok (.checkcast 79, 3) := dk_192 0 79 (dk_at dksX11_cheapest_5 16 rfl rfl)
theorem dX11_cheapest_134 : decode cX11_cheapest 134 = .ok (.invokevirtual 178, 3) := dk_182 0 178 (dk_at dksX11_cheapest_5 19 rfl rfl)
theorem dX11_cheapest_137 : decode cX11_cheapest 137 = .ok (.isub, 1) := dk_100 (dk_at dksX11_cheapest_5 22 rfl rfl)
theorem dX11_cheapest_138 : decode cX11_cheapest 138 = .ok (.aaload, 1) := dk_50 (dk_at dksX11_cheapest_5 23 rfl rfl)
theorem dX11_cheapest_139 : decode cX11_cheapest 139 = .ok (.aload_n 2, 1) := dk_44 (dk_at dksX11_cheapest_6 0 rfl rfl)
theorem dX11_cheapest_140 : decode cX11_cheapest 140 = .ok (.iload_n 3, 1) := dk_29 (dk_at dksX11_cheapest_6 1 rfl rfl)
theorem dX11_cheapest_141 : decode cX11_cheapest 141 = .ok (.aaload, 1) := dk_50 (dk_at dksX11_cheapest_6 2 rfl rfl)
theorem dX11_cheapest_142 : decode cX11_cheapest 142 = .ok (.invokevirtual 163, 3) := dk_182 0 163 (dk_at dksX11_cheapest_6 3 rfl rfl)
theorem dX11_cheapest_145 : decode cX11_cheapest 145 = .ok (.pop, 1) := dk_87 (dk_at dksX11_cheapest_6 6 rfl rfl)
theorem dX11_cheapest_146 : decode cX11_cheapest 146 = .ok (.iinc 4 1, 3) := dk_132 4 1 (dk_at dksX11_cheapest_6 7 rfl rfl)
theorem dX11_cheapest_149 : decode cX11_cheapest 149 = .ok (.goto (-87), 3) := dk_167 255 169 (dk_at dksX11_cheapest_6 10 rfl rfl)
theorem dX11_cheapest_152 : decode cX11_cheapest 152 = .ok (.aload_n 2, 1) := dk_44 (dk_at dksX11_cheapest_6 13 rfl rfl)
theorem dX11_cheapest_153 : decode cX11_cheapest 153 = .ok (.iload_n 3, 1) := dk_29 (dk_at dksX11_cheapest_6 14 rfl rfl)
theorem dX11_cheapest_154 : decode cX11_cheapest 154 = .ok (.aaload, 1) := dk_50 (dk_at dksX11_cheapest_6 15 rfl rfl)
theorem dX11_cheapest_155 : decode cX11_cheapest 155 = .ok (.aload_n 1, 1) := dk_43 (dk_at dksX11_cheapest_6 16 rfl rfl)
theorem dX11_cheapest_156 : decode cX11_cheapest 156 = .ok (.iconst 1, 1) := dk_4 (dk_at dksX11_cheapest_6 17 rfl rfl)
theorem dX11_cheapest_157 : decode cX11_cheapest 157 = .ok (.iaload, 1) := dk_46 (dk_at dksX11_cheapest_6 18 rfl rfl)
theorem dX11_cheapest_158 : decode cX11_cheapest 158 = .ok (.iaload, 1) := dk_46 (dk_at dksX11_cheapest_6 19 rfl rfl)
theorem dX11_cheapest_159 : decode cX11_cheapest 159 = .ok (.aload_n 0, 1) := dk_42 (dk_at dksX11_cheapest_6 20 rfl rfl)
theorem dX11_cheapest_160 : decode cX11_cheapest 160 = .ok (.getfield 3, 3) := dk_180 0 3 (dk_at dksX11_cheapest_6 21 rfl rfl)
theorem dX11_cheapest_163 : decode cX11_cheapest 163 = .ok (.getfield 69, 3) := dk_180 0 69 (dk_at dksX11_cheapest_7 0 rfl rfl)
theorem dX11_cheapest_166 : decode cX11_cheapest 166 = .ok (.getfield 152, 3) := dk_180 0 152 (dk_at dksX11_cheapest_7 3 rfl rfl)
theorem dX11_cheapest_169 : decode cX11_cheapest 169 = .ok (.if_icmp .gt 5, 3) := dk_163 0 5 (dk_at dksX11_cheapest_7 6 rfl rfl)
theorem dX11_cheapest_172 : decode cX11_cheapest 172 = .ok (.iload_n 3, 1) := dk_29 (dk_at dksX11_cheapest_7 9 rfl rfl)
theorem dX11_cheapest_173 : decode cX11_cheapest 173 = .ok (.ireturn, 1) := dk_172 (dk_at dksX11_cheapest_7 10 rfl rfl)
theorem dX11_cheapest_174 : decode cX11_cheapest 174 = .ok (.iinc 3 1, 3) := dk_132 3 1 (dk_at dksX11_cheapest_7 11 rfl rfl)
theorem dX11_cheapest_177 : decode cX11_cheapest 177 = .ok (.goto (-166), 3) := dk_167 255 90 (dk_at dksX11_cheapest_7 14 rfl rfl)
theorem dX11_cheapest_180 : decode cX11_cheapest 180 = .ok (.ldc 158, 2) := dk_18 158 (dk_at dksX11_cheapest_7 17 rfl rfl)
theorem dX11_cheapest_182 : decode cX11_cheapest 182 = .ok (.ireturn, 1) := dk_172 (dk_at dksX11_cheapest_7 19 rfl rfl)
abbrev cX11_last : ByteArray := prog_5_method_17_code
def yX11_last : MethodName := ⟨RX11, "last", "([I)I"⟩
def dkwX11_last_7 : List UInt8 := [167, 255, 101, 2, 172]
abbrev dktX11_last_7 : List UInt8 := dkwX11_last_7 ++ []
def dkwX11_last_6 : List UInt8 := [50, 21, 6, 46, 163, 0, 7, 4, 167, 0, 4, 3, 128, 54, 5, 132, 6, 1, 167, 255, 168, 132, 3, 1]
abbrev dktX11_last_6 : List UInt8 := dkwX11_last_6 ++ dktX11_last_7
def dkwX11_last_5 : List UInt8 := [160, 0, 5, 29, 172, 21, 5, 42, 180, 0, 62, 25, 4, 21, 6, 182, 0, 83, 46, 42, 180, 0, 59, 29]
abbrev dktX11_last_5 : List UInt8 := dkwX11_last_5 ++ dktX11_last_6
def dkwX11_last_4 : List UInt8 := [25, 4, 21, 6, 182, 0, 83, 43, 4, 46, 160, 0, 18, 42, 180, 0, 56, 29, 50, 21, 6, 46, 28]
abbrev dktX11_last_4 : List UInt8 := dkwX11_last_4 ++ dktX11_last_5
def dkwX11_last_3 : List UInt8 := [21, 6, 25, 4, 182, 0, 138, 162, 0, 84, 42, 29, 182, 0, 135, 153, 0, 76, 21, 5, 153, 0, 31]
abbrev dktX11_last_3 : List UInt8 := dkwX11_last_3 ++ dktX11_last_4
def dkwX11_last_2 : List UInt8 := [180, 0, 69, 180, 0, 118, 29, 185, 0, 97, 2, 0, 192, 0, 79, 58, 4, 3, 54, 5, 3, 54, 6]
abbrev dktX11_last_2 : List UInt8 := dkwX11_last_2 ++ dktX11_last_3
def dkwX11_last_1 : List UInt8 := [162, 0, 142, 28, 18, 158, 162, 0, 136, 43, 3, 46, 43, 4, 46, 159, 0, 127, 42, 180, 0, 3]
abbrev dktX11_last_1 : List UInt8 := dkwX11_last_1 ++ dktX11_last_2
def dkwX11_last_0 : List UInt8 := [42, 43, 182, 0, 175, 61, 3, 62, 29, 42, 180, 0, 3, 180, 0, 69, 180, 0, 118, 185, 0, 131, 1, 0]
abbrev dktX11_last_0 : List UInt8 := dkwX11_last_0 ++ dktX11_last_1
theorem dksX11_last_0 : cX11_last.data.toList.drop 0 = dktX11_last_0 := by decide +kernel
theorem dksX11_last_1 : cX11_last.data.toList.drop 24 = dktX11_last_1 := dk_seg dksX11_last_0 24 rfl rfl
theorem dksX11_last_2 : cX11_last.data.toList.drop 46 = dktX11_last_2 := dk_seg dksX11_last_1 22 rfl rfl
theorem dksX11_last_3 : cX11_last.data.toList.drop 69 = dktX11_last_3 := dk_seg dksX11_last_2 23 rfl rfl
theorem dksX11_last_4 : cX11_last.data.toList.drop 92 = dktX11_last_4 := dk_seg dksX11_last_3 23 rfl rfl
theorem dksX11_last_5 : cX11_last.data.toList.drop 115 = dktX11_last_5 := dk_seg dksX11_last_4 23 rfl rfl
theorem dksX11_last_6 : cX11_last.data.toList.drop 139 = dktX11_last_6 := dk_seg dksX11_last_5 24 rfl rfl
theorem dksX11_last_7 : cX11_last.data.toList.drop 163 = dktX11_last_7 := dk_seg dksX11_last_6 24 rfl rfl
theorem dX11_last_0 : decode cX11_last 0 = .ok (.aload_n 0, 1) := dk_42 (dk_at dksX11_last_0 0 rfl rfl)
theorem dX11_last_1 : decode cX11_last 1 = .ok (.aload_n 1, 1) := dk_43 (dk_at dksX11_last_0 1 rfl rfl)
theorem dX11_last_2 : decode cX11_last 2 = .ok (.invokevirtual 175, 3) := dk_182 0 175 (dk_at dksX11_last_0 2 rfl rfl)
theorem dX11_last_5 : decode cX11_last 5 = .ok (.istore_n 2, 1) := dk_61 (dk_at dksX11_last_0 5 rfl rfl)
theorem dX11_last_6 : decode cX11_last 6 = .ok (.iconst 0, 1) := dk_3 (dk_at dksX11_last_0 6 rfl rfl)
theorem dX11_last_7 : decode cX11_last 7 = .ok (.istore_n 3, 1) := dk_62 (dk_at dksX11_last_0 7 rfl rfl)
theorem dX11_last_8 : decode cX11_last 8 = .ok (.iload_n 3, 1) := dk_29 (dk_at dksX11_last_0 8 rfl rfl)
theorem dX11_last_9 : decode cX11_last 9 = .ok (.aload_n 0, 1) := dk_42 (dk_at dksX11_last_0 9 rfl rfl)
theorem dX11_last_10 : decode cX11_last 10 = .ok (.getfield 3, 3) := dk_180 0 3 (dk_at dksX11_last_0 10 rfl rfl)
theorem dX11_last_13 : decode cX11_last 13 = .ok (.getfield 69, 3) := dk_180 0 69 (dk_at dksX11_last_0 13 rfl rfl)
theorem dX11_last_16 : decode cX11_last 16 = .ok (.getfield 118, 3) := dk_180 0 118 (dk_at dksX11_last_0 16 rfl rfl)
theorem dX11_last_19 : decode cX11_last 19 = .ok (.invokeinterface 131 1, 5) := by decide +kernel
theorem dX11_last_24 : decode cX11_last 24 = .ok (.if_icmp .ge 142, 3) := dk_162 0 142 (dk_at dksX11_last_1 0 rfl rfl)
theorem dX11_last_27 : decode cX11_last 27 = .ok (.iload_n 2, 1) := dk_28 (dk_at dksX11_last_1 3 rfl rfl)
theorem dX11_last_28 : decode cX11_last 28 = .ok (.ldc 158, 2) := dk_18 158 (dk_at dksX11_last_1 4 rfl rfl)
theorem dX11_last_30 : decode cX11_last 30 = .ok (.if_icmp .ge 136, 3) := dk_162 0 136 (dk_at dksX11_last_1 6 rfl rfl)
theorem dX11_last_33 : decode cX11_last 33 = .ok (.aload_n 1, 1) := dk_43 (dk_at dksX11_last_1 9 rfl rfl)
theorem dX11_last_34 : decode cX11_last 34 = .ok (.iconst 0, 1) := dk_3 (dk_at dksX11_last_1 10 rfl rfl)
theorem dX11_last_35 : decode cX11_last 35 = .ok (.iaload, 1) := dk_46 (dk_at dksX11_last_1 11 rfl rfl)
theorem dX11_last_36 : decode cX11_last 36 = .ok (.aload_n 1, 1) := dk_43 (dk_at dksX11_last_1 12 rfl rfl)
theorem dX11_last_37 : decode cX11_last 37 = .ok (.iconst 1, 1) := dk_4 (dk_at dksX11_last_1 13 rfl rfl)
theorem dX11_last_38 : decode cX11_last 38 = .ok (.iaload, 1) := dk_46 (dk_at dksX11_last_1 14 rfl rfl)
theorem dX11_last_39 : decode cX11_last 39 = .ok (.if_icmp .eq 127, 3) := dk_159 0 127 (dk_at dksX11_last_1 15 rfl rfl)
theorem dX11_last_42 : decode cX11_last 42 = .ok (.aload_n 0, 1) := dk_42 (dk_at dksX11_last_1 18 rfl rfl)
theorem dX11_last_43 : decode cX11_last 43 = .ok (.getfield 3, 3) := dk_180 0 3 (dk_at dksX11_last_1 19 rfl rfl)
theorem dX11_last_46 : decode cX11_last 46 = .ok (.getfield 69, 3) := dk_180 0 69 (dk_at dksX11_last_2 0 rfl rfl)
theorem dX11_last_49 : decode cX11_last 49 = .ok (.getfield 118, 3) := dk_180 0 118 (dk_at dksX11_last_2 3 rfl rfl)
theorem dX11_last_52 : decode cX11_last 52 = .ok (.iload_n 3, 1) := dk_29 (dk_at dksX11_last_2 6 rfl rfl)
theorem dX11_last_53 : decode cX11_last 53 = .ok (.invokeinterface 97 2, 5) := by decide +kernel
theorem dX11_last_58 : decode cX11_last 58 = .ok (.checkcast 79, 3) := dk_192 0 79 (dk_at dksX11_last_2 12 rfl rfl)
theorem dX11_last_61 : decode cX11_last 61 = .ok (.astore 4, 2) := dk_58 4 (dk_at dksX11_last_2 15 rfl rfl)
theorem dX11_last_63 : decode cX11_last 63 = .ok (.iconst 0, 1) := dk_3 (dk_at dksX11_last_2 17 rfl rfl)
theorem dX11_last_64 : decode cX11_last 64 = .ok (.istore 5, 2) := dk_54 5 (dk_at dksX11_last_2 18 rfl rfl)
theorem dX11_last_66 : decode cX11_last 66 = .ok (.iconst 0, 1) := dk_3 (dk_at dksX11_last_2 20 rfl rfl)
theorem dX11_last_67 : decode cX11_last 67 = .ok (.istore 6, 2) := dk_54 6 (dk_at dksX11_last_2 21 rfl rfl)
theorem dX11_last_69 : decode cX11_last 69 = .ok (.iload 6, 2) := dk_21 6 (dk_at dksX11_last_3 0 rfl rfl)
theorem dX11_last_71 : decode cX11_last 71 = .ok (.aload 4, 2) := dk_25 4 (dk_at dksX11_last_3 2 rfl rfl)
theorem dX11_last_73 : decode cX11_last 73 = .ok (.invokevirtual 138, 3) := dk_182 0 138 (dk_at dksX11_last_3 4 rfl rfl)
theorem dX11_last_76 : decode cX11_last 76 = .ok (.if_icmp .ge 84, 3) := dk_162 0 84 (dk_at dksX11_last_3 7 rfl rfl)
theorem dX11_last_79 : decode cX11_last 79 = .ok (.aload_n 0, 1) := dk_42 (dk_at dksX11_last_3 10 rfl rfl)
theorem dX11_last_80 : decode cX11_last 80 = .ok (.iload_n 3, 1) := dk_29 (dk_at dksX11_last_3 11 rfl rfl)
theorem dX11_last_81 : decode cX11_last 81 = .ok (.invokevirtual 135, 3) := dk_182 0 135 (dk_at dksX11_last_3 12 rfl rfl)
theorem dX11_last_84 : decode cX11_last 84 = .ok (.ifCond .eq 76, 3) := dk_153 0 76 (dk_at dksX11_last_3 15 rfl rfl)
theorem dX11_last_87 : decode cX11_last 87 = .ok (.iload 5, 2) := dk_21 5 (dk_at dksX11_last_3 18 rfl rfl)
theorem dX11_last_89 : decode cX11_last 89 = .ok (.ifCond .eq 31, 3) := dk_153 0 31 (dk_at dksX11_last_3 20 rfl rfl)
theorem dX11_last_92 : decode cX11_last 92 = .ok (.aload 4, 2) := dk_25 4 (dk_at dksX11_last_4 0 rfl rfl)
theorem dX11_last_94 : decode cX11_last 94 = .ok (.iload 6, 2) := dk_21 6 (dk_at dksX11_last_4 2 rfl rfl)
theorem dX11_last_96 : decode cX11_last 96 = .ok (.invokevirtual 83, 3) := dk_182 0 83 (dk_at dksX11_last_4 4 rfl rfl)
theorem dX11_last_99 : decode cX11_last 99 = .ok (.aload_n 1, 1) := dk_43 (dk_at dksX11_last_4 7 rfl rfl)
theorem dX11_last_100 : decode cX11_last 100 = .ok (.iconst 1, 1) := dk_4 (dk_at dksX11_last_4 8 rfl rfl)
theorem dX11_last_101 : decode cX11_last 101 = .ok (.iaload, 1) := dk_46 (dk_at dksX11_last_4 9 rfl rfl)
theorem dX11_last_102 : decode cX11_last 102 = .ok (.if_icmp .ne 18, 3) := dk_160 0 18 (dk_at dksX11_last_4 10 rfl rfl)
theorem dX11_last_105 : decode cX11_last 105 = .ok (.aload_n 0, 1) := dk_42 (dk_at dksX11_last_4 13 rfl rfl)
theorem dX11_last_106 : decode cX11_last 106 = .ok (.getfield 56, 3) := dk_180 0 56 (dk_at dksX11_last_4 14 rfl rfl)
theorem dX11_last_109 : decode cX11_last 109 = .ok (.iload_n 3, 1) := dk_29 (dk_at dksX11_last_4 17 rfl rfl)
theorem dX11_last_110 : decode cX11_last 110 = .ok (.aaload, 1) := dk_50 (dk_at dksX11_last_4 18 rfl rfl)
theorem dX11_last_111 : decode cX11_last 111 = .ok (.iload 6, 2) := dk_21 6 (dk_at dksX11_last_4 19 rfl rfl)
theorem dX11_last_113 : decode cX11_last 113 = .ok (.iaload, 1) := dk_46 (dk_at dksX11_last_4 21 rfl rfl)
theorem dX11_last_114 : decode cX11_last 114 = .ok (.iload_n 2, 1) := dk_28 (dk_at dksX11_last_4 22 rfl rfl)
theorem dX11_last_115 : decode cX11_last 115 = .ok (.if_icmp .ne 5, 3) := dk_160 0 5 (dk_at dksX11_last_5 0 rfl rfl)
theorem dX11_last_118 : decode cX11_last 118 = .ok (.iload_n 3, 1) := dk_29 (dk_at dksX11_last_5 3 rfl rfl)
theorem dX11_last_119 : decode cX11_last 119 = .ok (.ireturn, 1) := dk_172 (dk_at dksX11_last_5 4 rfl rfl)
theorem dX11_last_120 : decode cX11_last 120 = .ok (.iload 5, 2) := dk_21 5 (dk_at dksX11_last_5 5 rfl rfl)
theorem dX11_last_122 : decode cX11_last 122 = .ok (.aload_n 0, 1) := dk_42 (dk_at dksX11_last_5 7 rfl rfl)
theorem dX11_last_123 : decode cX11_last 123 = .ok (.getfield 62, 3) := dk_180 0 62 (dk_at dksX11_last_5 8 rfl rfl)
theorem dX11_last_126 : decode cX11_last 126 = .ok (.aload 4, 2) := dk_25 4 (dk_at dksX11_last_5 11 rfl rfl)
theorem dX11_last_128 : decode cX11_last 128 = .ok (.iload 6, 2) := dk_21 6 (dk_at dksX11_last_5 13 rfl rfl)
theorem dX11_last_130 : decode cX11_last 130 = .ok (.invokevirtual 83, 3) := dk_182 0 83 (dk_at dksX11_last_5 15 rfl rfl)
theorem dX11_last_133 : decode cX11_last 133 = .ok (.iaload, 1) := dk_46 (dk_at dksX11_last_5 18 rfl rfl)
theorem dX11_last_134 : decode cX11_last 134 = .ok (.aload_n 0, 1) := dk_42 (dk_at dksX11_last_5 19 rfl rfl)
theorem dX11_last_135 : decode cX11_last 135 = .ok (.getfield 59, 3) := dk_180 0 59 (dk_at dksX11_last_5 20 rfl rfl)
theorem dX11_last_138 : decode cX11_last 138 = .ok (.iload_n 3, 1) := dk_29 (dk_at dksX11_last_5 23 rfl rfl)
theorem dX11_last_139 : decode cX11_last 139 = .ok (.aaload, 1) := dk_50 (dk_at dksX11_last_6 0 rfl rfl)
theorem dX11_last_140 : decode cX11_last 140 = .ok (.iload 6, 2) := dk_21 6 (dk_at dksX11_last_6 1 rfl rfl)
theorem dX11_last_142 : decode cX11_last 142 = .ok (.iaload, 1) := dk_46 (dk_at dksX11_last_6 3 rfl rfl)
theorem dX11_last_143 : decode cX11_last 143 = .ok (.if_icmp .gt 7, 3) := dk_163 0 7 (dk_at dksX11_last_6 4 rfl rfl)
theorem dX11_last_146 : decode cX11_last 146 = .ok (.iconst 1, 1) := dk_4 (dk_at dksX11_last_6 7 rfl rfl)
theorem dX11_last_147 : decode cX11_last 147 = .ok (.goto 4, 3) := dk_167 0 4 (dk_at dksX11_last_6 8 rfl rfl)
theorem dX11_last_150 : decode cX11_last 150 = .ok (.iconst 0, 1) := dk_3 (dk_at dksX11_last_6 11 rfl rfl)
theorem dX11_last_151 : decode cX11_last 151 = .ok (.ior, 1) := dk_128 (dk_at dksX11_last_6 12 rfl rfl)
theorem dX11_last_152 : decode cX11_last 152 = .ok (.istore 5, 2) := dk_54 5 (dk_at dksX11_last_6 13 rfl rfl)
theorem dX11_last_154 : decode cX11_last 154 = .ok (.iinc 6 1, 3) := dk_132 6 1 (dk_at dksX11_last_6 15 rfl rfl)
theorem dX11_last_157 : decode cX11_last 157 = .ok (.goto (-88), 3) := dk_167 255 168 (dk_at dksX11_last_6 18 rfl rfl)
theorem dX11_last_160 : decode cX11_last 160 = .ok (.iinc 3 1, 3) := dk_132 3 1 (dk_at dksX11_last_6 21 rfl rfl)
theorem dX11_last_163 : decode cX11_last 163 = .ok (.goto (-155), 3) := dk_167 255 101 (dk_at dksX11_last_7 0 rfl rfl)
theorem dX11_last_166 : decode cX11_last 166 = .ok (.iconst (-1), 1) := dk_2 (dk_at dksX11_last_7 3 rfl rfl)
theorem dX11_last_167 : decode cX11_last 167 = .ok (.ireturn, 1) := dk_172 (dk_at dksX11_last_7 4 rfl rfl)
theorem q143 : (Jvm.Cond.initialized "WingTrams$Night") ∈ lw_all := lw_g (lw_at lw_m1 33 rfl) rfl
theorem q190 : (Jvm.Cond.fieldLinkNest "WingTrams$Night" (90 : Nat) "WingTrams$City" "grain" "[I" "WingTrams") ∈ lw_tbl := lw_at lw_m1 80 rfl
theorem q194 : (Jvm.Cond.fieldLinkNest "WingTrams$Night" (73 : Nat) "WingTrams$City" "minutes" "[[I" "WingTrams") ∈ lw_tbl := lw_at lw_m1 84 rfl
theorem q199 : (Jvm.Cond.fieldLinkNest "WingTrams$Night" (118 : Nat) "WingTrams$City" "owls" "Ljava/util/List;" "WingTrams") ∈ lw_tbl := lw_at lw_m1 89 rfl
theorem q204 : (Jvm.Cond.fieldLinkNest "WingTrams$Night" (171 : Nat) "WingTrams$City" "riders" "Ljava/util/List;" "WingTrams") ∈ lw_tbl := lw_at lw_m1 94 rfl
theorem q207 : (Jvm.Cond.fieldLinkNest "WingTrams$Night" (93 : Nat) "WingTrams$City" "hunts" "Ljava/util/List;" "WingTrams") ∈ lw_tbl := lw_at lw_m1 97 rfl
theorem q211 : (Jvm.Cond.fieldLinkNest "WingTrams$Night" (139 : Nat) "WingTrams$City" "roofs" "I" "WingTrams") ∈ lw_tbl := lw_at lw_m1 101 rfl
theorem q218 : (Jvm.Cond.fieldLinkNest "WingTrams$Night" (152 : Nat) "WingTrams$City" "dawn" "I" "WingTrams") ∈ lw_tbl := lw_at lw_m1 108 rfl
theorem q241 : (Jvm.Cond.fieldLinkNest "WingTrams$Night" (69 : Nat) "WingTrams" "city" "LWingTrams$City;" "WingTrams") ∈ lw_tbl := lw_at lw_m1 131 rfl
theorem q243 : (Jvm.Cond.fieldLinkNest "WingTrams$Night" (87 : Nat) "WingTrams" "values" "[I" "WingTrams") ∈ lw_tbl := lw_at lw_m1 133 rfl
theorem q245 : (Jvm.Cond.fieldLinkNest "WingTrams$Night" (15 : Nat) "WingTrams" "inForce" "I" "WingTrams") ∈ lw_tbl := lw_at lw_m1 135 rfl
theorem q247 : (Jvm.Cond.fieldLinkNest "WingTrams$Night" (22 : Nat) "WingTrams" "moonNow" "I" "WingTrams") ∈ lw_tbl := lw_at lw_m1 137 rfl
theorem q249 : (Jvm.Cond.fieldLinkNest "WingTrams$Night" (28 : Nat) "WingTrams" "nestsNow" "I" "WingTrams") ∈ lw_tbl := lw_at lw_m1 139 rfl
theorem q251 : (Jvm.Cond.fieldLinkNest "WingTrams$Night" (34 : Nat) "WingTrams" "wetNow" "Z" "WingTrams") ∈ lw_tbl := lw_at lw_m1 141 rfl
theorem q370 : (Jvm.Cond.selects "WingTrams$Night" ({ cls := "java/lang/Object", name := "getClass", desc := "()Ljava/lang/Class;" } : Jvm.MethodName) ({ cls := "java/lang/Object", name := "getClass", desc := "()Ljava/lang/Class;" } : Jvm.MethodName)) ∈ lw_all := lw_g (lw_at lw_m2 20 rfl) rfl
theorem q468 : (Jvm.Cond.instantiable "WingTrams$Night" (12 : Nat)) ∈ lw_all := lw_g (lw_at lw_m2 118 rfl) rfl
theorem q470 : (Jvm.Cond.instanceMethod ({ cls := "WingTrams$Night", name := "<init>", desc := "(LWingTrams;)V" } : Jvm.MethodName)) ∈ lw_all := lw_g (lw_at lw_m2 120 rfl) rfl
theorem q471 : (Jvm.Cond.code ({ cls := "WingTrams$Night", name := "<init>", desc := "(LWingTrams;)V" } : Jvm.MethodName) prog_5_method_1_code (2 : Nat) (Option.none : Option Jvm.ClassFile.FieldType)) ∈ lw_all := lw_g (lw_at lw_m2 121 rfl) rfl
theorem q472 : (Jvm.Cond.methodLink "WingTrams$Night" (9 : Nat) ({ cls := "java/lang/Object", name := "<init>", desc := "()V" } : Jvm.MethodName)) ∈ lw_all := lw_g (lw_at lw_m2 122 rfl) rfl
theorem q473 : (Jvm.Cond.classLink "WingTrams$Night" (54 : Nat) "[[I") ∈ lw_all := lw_g (lw_at lw_m2 123 rfl) rfl
theorem q474 : (Jvm.Cond.fieldLink "WingTrams$Night" (19 : Nat) "WingTrams$Night" "rule" "I") ∈ lw_all := lw_g (lw_at lw_m2 124 rfl) rfl
theorem q476 : (Jvm.Cond.fieldLink "WingTrams$Night" (25 : Nat) "WingTrams$Night" "moon" "I") ∈ lw_all := lw_g (lw_at lw_m2 126 rfl) rfl
theorem q478 : (Jvm.Cond.fieldLink "WingTrams$Night" (31 : Nat) "WingTrams$Night" "nests" "I") ∈ lw_all := lw_g (lw_at lw_m2 128 rfl) rfl
theorem q480 : (Jvm.Cond.fieldLink "WingTrams$Night" (38 : Nat) "WingTrams$Night" "wet" "Z") ∈ lw_all := lw_g (lw_at lw_m2 130 rfl) rfl
theorem q482 : (Jvm.Cond.fieldLink "WingTrams$Night" (41 : Nat) "WingTrams$Night" "more" "[I") ∈ lw_all := lw_g (lw_at lw_m2 132 rfl) rfl
theorem q484 : (Jvm.Cond.fieldLink "WingTrams$Night" (45 : Nat) "WingTrams$Night" "mice" "[I") ∈ lw_all := lw_g (lw_at lw_m2 134 rfl) rfl
theorem q486 : (Jvm.Cond.fieldLink "WingTrams$Night" (48 : Nat) "WingTrams$Night" "caught" "[I") ∈ lw_all := lw_g (lw_at lw_m2 136 rfl) rfl
theorem q488 : (Jvm.Cond.fieldLink "WingTrams$Night" (51 : Nat) "WingTrams$Night" "next" "[I") ∈ lw_all := lw_g (lw_at lw_m2 138 rfl) rfl
theorem q489 : (Jvm.Cond.fieldLink "WingTrams$Night" (56 : Nat) "WingTrams$Night" "comes" "[[I") ∈ lw_all := lw_g (lw_at lw_m2 139 rfl) rfl
theorem q492 : (Jvm.Cond.fieldLink "WingTrams$Night" (59 : Nat) "WingTrams$Night" "leaves" "[[I") ∈ lw_all := lw_g (lw_at lw_m2 142 rfl) rfl
theorem q495 : (Jvm.Cond.fieldLink "WingTrams$Night" (62 : Nat) "WingTrams$Night" "soon" "[I") ∈ lw_all := lw_g (lw_at lw_m2 145 rfl) rfl
theorem q497 : (Jvm.Cond.fieldLink "WingTrams$Night" (3 : Nat) "WingTrams$Night" "this$0" "LWingTrams;") ∈ lw_all := lw_g (lw_at lw_m2 147 rfl) rfl
theorem q498 : (Jvm.Cond.lays "WingTrams$Night" "WingTrams$Night" "rule" "I") ∈ lw_all := lw_g (lw_at lw_m2 148 rfl) rfl
theorem q499 : (Jvm.Cond.soleField "WingTrams$Night" "rule") ∈ lw_all := lw_g (lw_at lw_m2 149 rfl) rfl
theorem q500 : (Jvm.Cond.lays "WingTrams$Night" "WingTrams$Night" "moon" "I") ∈ lw_all := lw_g (lw_at lw_m2 150 rfl) rfl
theorem q501 : (Jvm.Cond.soleField "WingTrams$Night" "moon") ∈ lw_all := lw_g (lw_at lw_m2 151 rfl) rfl
theorem q502 : (Jvm.Cond.lays "WingTrams$Night" "WingTrams$Night" "nests" "I") ∈ lw_all := lw_g (lw_at lw_m2 152 rfl) rfl
theorem q503 : (Jvm.Cond.soleField "WingTrams$Night" "nests") ∈ lw_all := lw_g (lw_at lw_m2 153 rfl) rfl
theorem q504 : (Jvm.Cond.lays "WingTrams$Night" "WingTrams$Night" "wet" "Z") ∈ lw_all := lw_g (lw_at lw_m2 154 rfl) rfl
theorem q505 : (Jvm.Cond.soleField "WingTrams$Night" "wet") ∈ lw_all := lw_g (lw_at lw_m2 155 rfl) rfl
theorem q506 : (Jvm.Cond.laysFinal "WingTrams$Night" "WingTrams$Night" "more" "[I") ∈ lw_all := lw_g (lw_at lw_m2 156 rfl) rfl
theorem q507 : (Jvm.Cond.soleField "WingTrams$Night" "more") ∈ lw_all := lw_g (lw_at lw_m2 157 rfl) rfl
theorem q508 : (Jvm.Cond.laysFinal "WingTrams$Night" "WingTrams$Night" "mice" "[I") ∈ lw_all := lw_g (lw_at lw_m2 158 rfl) rfl
theorem q509 : (Jvm.Cond.soleField "WingTrams$Night" "mice") ∈ lw_all := lw_g (lw_at lw_m2 159 rfl) rfl
theorem q510 : (Jvm.Cond.laysFinal "WingTrams$Night" "WingTrams$Night" "caught" "[I") ∈ lw_all := lw_g (lw_at lw_m2 160 rfl) rfl
theorem q511 : (Jvm.Cond.soleField "WingTrams$Night" "caught") ∈ lw_all := lw_g (lw_at lw_m2 161 rfl) rfl
theorem q512 : (Jvm.Cond.laysFinal "WingTrams$Night" "WingTrams$Night" "next" "[I") ∈ lw_all := lw_g (lw_at lw_m2 162 rfl) rfl
theorem q513 : (Jvm.Cond.soleField "WingTrams$Night" "next") ∈ lw_all := lw_g (lw_at lw_m2 163 rfl) rfl
theorem q514 : (Jvm.Cond.laysFinal "WingTrams$Night" "WingTrams$Night" "comes" "[[I") ∈ lw_all := lw_g (lw_at lw_m2 164 rfl) rfl
theorem q515 : (Jvm.Cond.soleField "WingTrams$Night" "comes") ∈ lw_all := lw_g (lw_at lw_m2 165 rfl) rfl
theorem q516 : (Jvm.Cond.laysFinal "WingTrams$Night" "WingTrams$Night" "leaves" "[[I") ∈ lw_all := lw_g (lw_at lw_m2 166 rfl) rfl
theorem q517 : (Jvm.Cond.soleField "WingTrams$Night" "leaves") ∈ lw_all := lw_g (lw_at lw_m2 167 rfl) rfl
theorem q518 : (Jvm.Cond.laysFinal "WingTrams$Night" "WingTrams$Night" "soon" "[I") ∈ lw_all := lw_g (lw_at lw_m2 168 rfl) rfl
theorem q519 : (Jvm.Cond.soleField "WingTrams$Night" "soon") ∈ lw_all := lw_g (lw_at lw_m2 169 rfl) rfl
theorem q520 : (Jvm.Cond.laysFinal "WingTrams$Night" "WingTrams$Night" "this$0" "LWingTrams;") ∈ lw_all := lw_g (lw_at lw_m2 170 rfl) rfl
theorem q521 : (Jvm.Cond.soleField "WingTrams$Night" "this$0") ∈ lw_all := lw_g (lw_at lw_m2 171 rfl) rfl
theorem q522 : (Jvm.Cond.superclass "WingTrams$Night" "java/lang/Object") ∈ lw_all := lw_g (lw_at lw_m2 172 rfl) rfl
theorem q524 : (Jvm.Cond.instanceMethod ({ cls := "WingTrams$Night", name := "run", desc := "()LWingTrams$Night;" } : Jvm.MethodName)) ∈ lw_all := lw_g (lw_at lw_m2 174 rfl) rfl
theorem q525 : (Jvm.Cond.selects "WingTrams$Night" ({ cls := "WingTrams$Night", name := "run", desc := "()LWingTrams$Night;" } : Jvm.MethodName) ({ cls := "WingTrams$Night", name := "run", desc := "()LWingTrams$Night;" } : Jvm.MethodName)) ∈ lw_all := lw_g (lw_at lw_m2 175 rfl) rfl
theorem q526 : (Jvm.Cond.code ({ cls := "WingTrams$Night", name := "run", desc := "()LWingTrams$Night;" } : Jvm.MethodName) prog_5_method_7_code (2 : Nat) (Option.some (Jvm.ClassFile.FieldType.object "WingTrams$Night"))) ∈ lw_all := lw_g (lw_at lw_m2 176 rfl) rfl
theorem q527 : (Jvm.Cond.interfaceEntry "WingTrams$Night" (131 : Nat)) ∈ lw_tbl := lw_at lw_m2 177 rfl
theorem q528 : (Jvm.Cond.methodLink "WingTrams$Night" (131 : Nat) ({ cls := "java/util/List", name := "size", desc := "()I" } : Jvm.MethodName)) ∈ lw_all := lw_g (lw_at lw_m2 178 rfl) rfl
theorem q529 : (Jvm.Cond.interfaceEntry "WingTrams$Night" (97 : Nat)) ∈ lw_tbl := lw_at lw_m2 179 rfl
theorem q530 : (Jvm.Cond.methodLink "WingTrams$Night" (97 : Nat) ({ cls := "java/util/List", name := "get", desc := "(I)Ljava/lang/Object;" } : Jvm.MethodName)) ∈ lw_all := lw_g (lw_at lw_m2 180 rfl) rfl
theorem q531 : (Jvm.Cond.classLink "WingTrams$Night" (79 : Nat) "WingTrams$Owl") ∈ lw_all := lw_g (lw_at lw_m2 181 rfl) rfl
theorem q532 : (Jvm.Cond.methodLink "WingTrams$Night" (145 : Nat) ({ cls := "WingTrams$Night", name := "first", desc := "()I" } : Jvm.MethodName)) ∈ lw_all := lw_g (lw_at lw_m2 182 rfl) rfl
theorem q533 : (Jvm.Cond.privateMethod ({ cls := "WingTrams$Night", name := "first", desc := "()I" } : Jvm.MethodName)) ∈ lw_tbl := lw_at lw_m2 183 rfl
theorem q534 : (Jvm.Cond.instanceMethod ({ cls := "WingTrams$Night", name := "first", desc := "()I" } : Jvm.MethodName)) ∈ lw_all := lw_g (lw_at lw_m2 184 rfl) rfl
theorem q535 : (Jvm.Cond.code ({ cls := "WingTrams$Night", name := "first", desc := "()I" } : Jvm.MethodName) prog_5_method_6_code (3 : Nat) (Option.some Jvm.ClassFile.FieldType.int)) ∈ lw_all := lw_g (lw_at lw_m2 185 rfl) rfl
theorem q536 : (Jvm.Cond.methodLink "WingTrams$Night" (135 : Nat) ({ cls := "WingTrams$Night", name := "isOut", desc := "(I)Z" } : Jvm.MethodName)) ∈ lw_all := lw_g (lw_at lw_m2 186 rfl) rfl
theorem q537 : (Jvm.Cond.instanceMethod ({ cls := "WingTrams$Night", name := "isOut", desc := "(I)Z" } : Jvm.MethodName)) ∈ lw_all := lw_g (lw_at lw_m2 187 rfl) rfl
theorem q538 : (Jvm.Cond.selects "WingTrams$Night" ({ cls := "WingTrams$Night", name := "isOut", desc := "(I)Z" } : Jvm.MethodName) ({ cls := "WingTrams$Night", name := "isOut", desc := "(I)Z" } : Jvm.MethodName)) ∈ lw_all := lw_g (lw_at lw_m2 188 rfl) rfl
theorem q539 : (Jvm.Cond.code ({ cls := "WingTrams$Night", name := "isOut", desc := "(I)Z" } : Jvm.MethodName) prog_5_method_2_code (2 : Nat) (Option.some Jvm.ClassFile.FieldType.boolean)) ∈ lw_all := lw_g (lw_at lw_m2 189 rfl) rfl
theorem q540 : (Jvm.Cond.methodLinkNest "WingTrams$Night" (65 : Nat) ({ cls := "WingTrams", name := "isOf", desc := "(II)Z" } : Jvm.MethodName) "WingTrams") ∈ lw_tbl := lw_at lw_m2 190 rfl
theorem q543 : (Jvm.Cond.methodLink "WingTrams$Night" (138 : Nat) ({ cls := "WingTrams$Owl", name := "size", desc := "()I" } : Jvm.MethodName)) ∈ lw_all := lw_g (lw_at lw_m2 193 rfl) rfl
theorem q549 : (Jvm.Cond.methodLink "WingTrams$Night" (148 : Nat) ({ cls := "WingTrams$Night", name := "come", desc := "(I)V" } : Jvm.MethodName)) ∈ lw_all := lw_g (lw_at lw_m2 199 rfl) rfl
theorem q550 : (Jvm.Cond.privateMethod ({ cls := "WingTrams$Night", name := "come", desc := "(I)V" } : Jvm.MethodName)) ∈ lw_tbl := lw_at lw_m2 200 rfl
theorem q551 : (Jvm.Cond.instanceMethod ({ cls := "WingTrams$Night", name := "come", desc := "(I)V" } : Jvm.MethodName)) ∈ lw_all := lw_g (lw_at lw_m2 201 rfl) rfl
theorem q552 : (Jvm.Cond.code ({ cls := "WingTrams$Night", name := "come", desc := "(I)V" } : Jvm.MethodName) prog_5_method_5_code (6 : Nat) (Option.none : Option Jvm.ClassFile.FieldType)) ∈ lw_all := lw_g (lw_at lw_m2 202 rfl) rfl
theorem q553 : (Jvm.Cond.methodLink "WingTrams$Night" (121 : Nat) ({ cls := "WingTrams$Night", name := "hunts", desc := "(LWingTrams$Owl;II)I" } : Jvm.MethodName)) ∈ lw_all := lw_g (lw_at lw_m2 203 rfl) rfl
theorem q554 : (Jvm.Cond.privateMethod ({ cls := "WingTrams$Night", name := "hunts", desc := "(LWingTrams$Owl;II)I" } : Jvm.MethodName)) ∈ lw_tbl := lw_at lw_m2 204 rfl
theorem q555 : (Jvm.Cond.instanceMethod ({ cls := "WingTrams$Night", name := "hunts", desc := "(LWingTrams$Owl;II)I" } : Jvm.MethodName)) ∈ lw_all := lw_g (lw_at lw_m2 205 rfl) rfl
theorem q556 : (Jvm.Cond.code ({ cls := "WingTrams$Night", name := "hunts", desc := "(LWingTrams$Owl;II)I" } : Jvm.MethodName) prog_5_method_4_code (5 : Nat) (Option.some Jvm.ClassFile.FieldType.int)) ∈ lw_all := lw_g (lw_at lw_m2 206 rfl) rfl
theorem q557 : (Jvm.Cond.methodLink "WingTrams$Night" (83 : Nat) ({ cls := "WingTrams$Owl", name := "at", desc := "(I)I" } : Jvm.MethodName)) ∈ lw_all := lw_g (lw_at lw_m2 207 rfl) rfl
theorem q568 : (Jvm.Cond.classLink "WingTrams$Night" (103 : Nat) "WingTrams$Form") ∈ lw_all := lw_g (lw_at lw_m2 218 rfl) rfl
theorem q569 : (Jvm.Cond.interfaceEntry "WingTrams$Night" (105 : Nat)) ∈ lw_tbl := lw_at lw_m2 219 rfl
theorem q570 : (Jvm.Cond.methodLink "WingTrams$Night" (105 : Nat) ({ cls := "WingTrams$Form", name := "of", desc := "([I)I" } : Jvm.MethodName)) ∈ lw_all := lw_g (lw_at lw_m2 220 rfl) rfl
theorem q636 : (Jvm.Cond.methodLink "WingTrams$Night" (109 : Nat) ({ cls := "java/lang/Math", name := "min", desc := "(II)I" } : Jvm.MethodName)) ∈ lw_all := lw_g (lw_at lw_m3 46 rfl) rfl
theorem q637 : (Jvm.Cond.methodLink "WingTrams$Night" (115 : Nat) ({ cls := "java/lang/Math", name := "max", desc := "(II)I" } : Jvm.MethodName)) ∈ lw_all := lw_g (lw_at lw_m3 47 rfl) rfl
theorem q638 : (Jvm.Cond.methodLink "WingTrams$Night" (124 : Nat) ({ cls := "WingTrams$Owl", name := "isLast", desc := "(I)Z" } : Jvm.MethodName)) ∈ lw_all := lw_g (lw_at lw_m3 48 rfl) rfl
theorem q643 : (Jvm.Cond.methodLink "WingTrams$Night" (128 : Nat) ({ cls := "WingTrams$Night", name := "flight", desc := "(LWingTrams$Owl;II)I" } : Jvm.MethodName)) ∈ lw_all := lw_g (lw_at lw_m3 53 rfl) rfl
theorem q644 : (Jvm.Cond.privateMethod ({ cls := "WingTrams$Night", name := "flight", desc := "(LWingTrams$Owl;II)I" } : Jvm.MethodName)) ∈ lw_tbl := lw_at lw_m3 54 rfl
theorem q645 : (Jvm.Cond.instanceMethod ({ cls := "WingTrams$Night", name := "flight", desc := "(LWingTrams$Owl;II)I" } : Jvm.MethodName)) ∈ lw_all := lw_g (lw_at lw_m3 55 rfl) rfl
theorem q646 : (Jvm.Cond.code ({ cls := "WingTrams$Night", name := "flight", desc := "(LWingTrams$Owl;II)I" } : Jvm.MethodName) prog_5_method_3_code (5 : Nat) (Option.some Jvm.ClassFile.FieldType.int)) ∈ lw_all := lw_g (lw_at lw_m3 56 rfl) rfl
theorem q648 : (Jvm.Cond.instanceMethod ({ cls := "WingTrams$Night", name := "home", desc := "([I)I" } : Jvm.MethodName)) ∈ lw_all := lw_g (lw_at lw_m3 58 rfl) rfl
theorem q649 : (Jvm.Cond.selects "WingTrams$Night" ({ cls := "WingTrams$Night", name := "home", desc := "([I)I" } : Jvm.MethodName) ({ cls := "WingTrams$Night", name := "home", desc := "([I)I" } : Jvm.MethodName)) ∈ lw_all := lw_g (lw_at lw_m3 59 rfl) rfl
theorem q650 : (Jvm.Cond.code ({ cls := "WingTrams$Night", name := "home", desc := "([I)I" } : Jvm.MethodName) prog_5_method_13_code (2 : Nat) (Option.some Jvm.ClassFile.FieldType.int)) ∈ lw_all := lw_g (lw_at lw_m3 60 rfl) rfl
theorem q651 : (Jvm.Cond.methodLink "WingTrams$Night" (167 : Nat) ({ cls := "WingTrams$Night", name := "tellSoon", desc := "([I)V" } : Jvm.MethodName)) ∈ lw_all := lw_g (lw_at lw_m3 61 rfl) rfl
theorem q652 : (Jvm.Cond.privateMethod ({ cls := "WingTrams$Night", name := "tellSoon", desc := "([I)V" } : Jvm.MethodName)) ∈ lw_tbl := lw_at lw_m3 62 rfl
theorem q653 : (Jvm.Cond.instanceMethod ({ cls := "WingTrams$Night", name := "tellSoon", desc := "([I)V" } : Jvm.MethodName)) ∈ lw_all := lw_g (lw_at lw_m3 63 rfl) rfl
theorem q654 : (Jvm.Cond.code ({ cls := "WingTrams$Night", name := "tellSoon", desc := "([I)V" } : Jvm.MethodName) prog_5_method_12_code (4 : Nat) (Option.none : Option Jvm.ClassFile.FieldType)) ∈ lw_all := lw_g (lw_at lw_m3 64 rfl) rfl
theorem q655 : (Jvm.Cond.methodLink "WingTrams$Night" (159 : Nat) ({ cls := "WingTrams$Night", name := "begin", desc := "([I[I)V" } : Jvm.MethodName)) ∈ lw_all := lw_g (lw_at lw_m3 65 rfl) rfl
theorem q656 : (Jvm.Cond.privateMethod ({ cls := "WingTrams$Night", name := "begin", desc := "([I[I)V" } : Jvm.MethodName)) ∈ lw_tbl := lw_at lw_m3 66 rfl
theorem q657 : (Jvm.Cond.instanceMethod ({ cls := "WingTrams$Night", name := "begin", desc := "([I[I)V" } : Jvm.MethodName)) ∈ lw_all := lw_g (lw_at lw_m3 67 rfl) rfl
theorem q658 : (Jvm.Cond.code ({ cls := "WingTrams$Night", name := "begin", desc := "([I[I)V" } : Jvm.MethodName) prog_5_method_11_code (4 : Nat) (Option.none : Option Jvm.ClassFile.FieldType)) ∈ lw_all := lw_g (lw_at lw_m3 68 rfl) rfl
theorem q659 : (Jvm.Cond.constant "WingTrams$Night" (158 : Nat) (1000000 : Int32)) ∈ lw_all := lw_g (lw_at lw_m3 69 rfl) rfl
theorem q660 : (Jvm.Cond.methodLink "WingTrams$Night" (163 : Nat) ({ cls := "WingTrams$Night", name := "ride", desc := "(I[I[I)Z" } : Jvm.MethodName)) ∈ lw_all := lw_g (lw_at lw_m3 70 rfl) rfl
theorem q661 : (Jvm.Cond.privateMethod ({ cls := "WingTrams$Night", name := "ride", desc := "(I[I[I)Z" } : Jvm.MethodName)) ∈ lw_tbl := lw_at lw_m3 71 rfl
theorem q662 : (Jvm.Cond.instanceMethod ({ cls := "WingTrams$Night", name := "ride", desc := "(I[I[I)Z" } : Jvm.MethodName)) ∈ lw_all := lw_g (lw_at lw_m3 72 rfl) rfl
theorem q663 : (Jvm.Cond.code ({ cls := "WingTrams$Night", name := "ride", desc := "(I[I[I)Z" } : Jvm.MethodName) prog_5_method_10_code (9 : Nat) (Option.some Jvm.ClassFile.FieldType.boolean)) ∈ lw_all := lw_g (lw_at lw_m3 73 rfl) rfl
theorem q674 : (Jvm.Cond.instanceMethod ({ cls := "WingTrams$Night", name := "homes", desc := "()I" } : Jvm.MethodName)) ∈ lw_all := lw_g (lw_at lw_m3 84 rfl) rfl
theorem q675 : (Jvm.Cond.selects "WingTrams$Night" ({ cls := "WingTrams$Night", name := "homes", desc := "()I" } : Jvm.MethodName) ({ cls := "WingTrams$Night", name := "homes", desc := "()I" } : Jvm.MethodName)) ∈ lw_all := lw_g (lw_at lw_m3 85 rfl) rfl
theorem q676 : (Jvm.Cond.code ({ cls := "WingTrams$Night", name := "homes", desc := "()I" } : Jvm.MethodName) prog_5_method_14_code (3 : Nat) (Option.some Jvm.ClassFile.FieldType.int)) ∈ lw_all := lw_g (lw_at lw_m3 86 rfl) rfl
theorem q677 : (Jvm.Cond.classLink "WingTrams$Night" (174 : Nat) "[I") ∈ lw_all := lw_g (lw_at lw_m3 87 rfl) rfl
theorem q678 : (Jvm.Cond.methodLink "WingTrams$Night" (175 : Nat) ({ cls := "WingTrams$Night", name := "home", desc := "([I)I" } : Jvm.MethodName)) ∈ lw_all := lw_g (lw_at lw_m3 88 rfl) rfl
theorem q692 : (Jvm.Cond.instanceMethod ({ cls := "WingTrams$Night", name := "where", desc := "(II)I" } : Jvm.MethodName)) ∈ lw_all := lw_g (lw_at lw_m3 102 rfl) rfl
theorem q693 : (Jvm.Cond.selects "WingTrams$Night" ({ cls := "WingTrams$Night", name := "where", desc := "(II)I" } : Jvm.MethodName) ({ cls := "WingTrams$Night", name := "where", desc := "(II)I" } : Jvm.MethodName)) ∈ lw_all := lw_g (lw_at lw_m3 103 rfl) rfl
theorem q694 : (Jvm.Cond.code ({ cls := "WingTrams$Night", name := "where", desc := "(II)I" } : Jvm.MethodName) prog_5_method_8_code (5 : Nat) (Option.some Jvm.ClassFile.FieldType.int)) ∈ lw_all := lw_g (lw_at lw_m3 104 rfl) rfl
theorem q1035 : (Jvm.Cond.fieldLinkNest "WingTrams$Night" (78 : Nat) "WingTrams$Owl" "kind" "I" "WingTrams") ∈ lw_tbl := lw_at lw_m4 205 rfl
theorem q1038 : (Jvm.Cond.fieldLinkNest "WingTrams$Night" (142 : Nat) "WingTrams$Owl" "minute" "I" "WingTrams") ∈ lw_tbl := lw_at lw_m4 208 rfl
theorem q1348 : (Jvm.Cond.instanceMethod ({ cls := "WingTrams$Night", name := "together", desc := "(I)I" } : Jvm.MethodName)) ∈ lw_all := lw_g (lw_at lw_m6 38 rfl) rfl
theorem q1349 : (Jvm.Cond.selects "WingTrams$Night" ({ cls := "WingTrams$Night", name := "together", desc := "(I)I" } : Jvm.MethodName) ({ cls := "WingTrams$Night", name := "together", desc := "(I)I" } : Jvm.MethodName)) ∈ lw_all := lw_g (lw_at lw_m6 39 rfl) rfl
theorem q1350 : (Jvm.Cond.code ({ cls := "WingTrams$Night", name := "together", desc := "(I)I" } : Jvm.MethodName) prog_5_method_9_code (7 : Nat) (Option.some Jvm.ClassFile.FieldType.int)) ∈ lw_all := lw_g (lw_at lw_m6 40 rfl) rfl
theorem q1351 : (Jvm.Cond.methodLink "WingTrams$Night" (155 : Nat) ({ cls := "WingTrams$Night", name := "where", desc := "(II)I" } : Jvm.MethodName)) ∈ lw_all := lw_g (lw_at lw_m6 41 rfl) rfl
theorem q1420 : (Jvm.Cond.instanceMethod ({ cls := "WingTrams$Night", name := "rides", desc := "([I)I" } : Jvm.MethodName)) ∈ lw_all := lw_g (lw_at lw_m6 110 rfl) rfl
theorem q1421 : (Jvm.Cond.selects "WingTrams$Night" ({ cls := "WingTrams$Night", name := "rides", desc := "([I)I" } : Jvm.MethodName) ({ cls := "WingTrams$Night", name := "rides", desc := "([I)I" } : Jvm.MethodName)) ∈ lw_all := lw_g (lw_at lw_m6 111 rfl) rfl
theorem q1422 : (Jvm.Cond.code ({ cls := "WingTrams$Night", name := "rides", desc := "([I)I" } : Jvm.MethodName) prog_5_method_15_code (6 : Nat) (Option.some Jvm.ClassFile.FieldType.int)) ∈ lw_all := lw_g (lw_at lw_m6 112 rfl) rfl
theorem q1432 : (Jvm.Cond.instanceMethod ({ cls := "WingTrams$Night", name := "cheapest", desc := "([I)I" } : Jvm.MethodName)) ∈ lw_all := lw_g (lw_at lw_m6 122 rfl) rfl
theorem q1433 : (Jvm.Cond.selects "WingTrams$Night" ({ cls := "WingTrams$Night", name := "cheapest", desc := "([I)I" } : Jvm.MethodName) ({ cls := "WingTrams$Night", name := "cheapest", desc := "([I)I" } : Jvm.MethodName)) ∈ lw_all := lw_g (lw_at lw_m6 123 rfl) rfl
theorem q1434 : (Jvm.Cond.code ({ cls := "WingTrams$Night", name := "cheapest", desc := "([I)I" } : Jvm.MethodName) prog_5_method_16_code (5 : Nat) (Option.some Jvm.ClassFile.FieldType.int)) ∈ lw_all := lw_g (lw_at lw_m6 124 rfl) rfl
theorem q1435 : (Jvm.Cond.methodLink "WingTrams$Night" (178 : Nat) ({ cls := "WingTrams$Owl", name := "fare", desc := "()I" } : Jvm.MethodName)) ∈ lw_all := lw_g (lw_at lw_m6 125 rfl) rfl
theorem q1447 : (Jvm.Cond.instanceMethod ({ cls := "WingTrams$Night", name := "last", desc := "([I)I" } : Jvm.MethodName)) ∈ lw_all := lw_g (lw_at lw_m6 137 rfl) rfl
theorem q1448 : (Jvm.Cond.selects "WingTrams$Night" ({ cls := "WingTrams$Night", name := "last", desc := "([I)I" } : Jvm.MethodName) ({ cls := "WingTrams$Night", name := "last", desc := "([I)I" } : Jvm.MethodName)) ∈ lw_all := lw_g (lw_at lw_m6 138 rfl) rfl
theorem q1449 : (Jvm.Cond.code ({ cls := "WingTrams$Night", name := "last", desc := "([I)I" } : Jvm.MethodName) prog_5_method_17_code (7 : Nat) (Option.some Jvm.ClassFile.FieldType.int)) ∈ lw_all := lw_g (lw_at lw_m6 139 rfl) rfl
theorem q2288 : (Jvm.Cond.castable "WingTrams$Night" "java/lang/Object") ∈ lw_tbl := lw_at lw_m10 18 rfl
theorem in_X11 : ∀ w ∈ wsX110, w ∈ lw_all := lw_in wsX110 [498, 500, 502, 504, 506, 508, 510, 512, 514, 516, 518, 520] (by decide +kernel) (by decide +kernel)
/-! WingTrams$Straps -/
set_option maxRecDepth 100000
def RX12 : String := "WingTrams$Straps"
def TX12 : u_T := fun k => match k with
  | 0 => ("WingTrams$Straps", "night", "LWingTrams$Night;", true)
  | 1 => ("WingTrams$Straps", "on", "[[I", true)
  | 2 => ("WingTrams$Straps", "many", "I", true)
  | _ => ("WingTrams$Straps", "this$0", "LWingTrams;", true)
def tyX12 : Nat → FieldType := fun k => match k with
  | 0 => .object "WingTrams$Night"
  | 1 => .array (.array .int)
  | 2 => .int
  | _ => .object "WingTrams"
abbrev wsX120 : List Cond := u_ws RX12 TX12 4
theorem nmX12 : ∀ a, a < 4 → ∀ b, b < 4 → a ≠ b → (TX12 a).2.1 ≠ (TX12 b).2.1 := by decide +kernel
theorem tyX12_ok : ∀ k, k < 4 → parseFieldDescriptor (TX12 k).2.2.1 = some (tyX12 k) := by decide +kernel
abbrev cX12_init : ByteArray := prog_10_method_1_code
def yX12_init : MethodName := ⟨RX12, "<init>", "(LWingTrams;I)V"⟩
def dkwX12_init_1 : List UInt8 := [181, 0, 24, 42, 8, 16, 8, 197, 0, 28, 2, 181, 0, 30, 42, 28, 181, 0, 33, 177]
abbrev dktX12_init_1 : List UInt8 := dkwX12_init_1 ++ []
def dkwX12_init_0 : List UInt8 := [42, 43, 181, 0, 3, 42, 183, 0, 9, 42, 187, 0, 15, 89, 42, 180, 0, 3, 183, 0, 17, 182, 0, 20]
abbrev dktX12_init_0 : List UInt8 := dkwX12_init_0 ++ dktX12_init_1
theorem dksX12_init_0 : cX12_init.data.toList.drop 0 = dktX12_init_0 := by decide +kernel
theorem dksX12_init_1 : cX12_init.data.toList.drop 24 = dktX12_init_1 := dk_seg dksX12_init_0 24 rfl rfl
theorem dX12_init_0 : decode cX12_init 0 = .ok (.aload_n 0, 1) := dk_42 (dk_at dksX12_init_0 0 rfl rfl)
theorem dX12_init_1 : decode cX12_init 1 = .ok (.aload_n 1, 1) := dk_43 (dk_at dksX12_init_0 1 rfl rfl)
theorem dX12_init_2 : decode cX12_init 2 = .ok (.putfield 3, 3) := dk_181 0 3 (dk_at dksX12_init_0 2 rfl rfl)
theorem dX12_init_5 : decode cX12_init 5 = .ok (.aload_n 0, 1) := dk_42 (dk_at dksX12_init_0 5 rfl rfl)
theorem dX12_init_6 : decode cX12_init 6 = .ok (.invokespecial 9, 3) := dk_183 0 9 (dk_at dksX12_init_0 6 rfl rfl)
theorem dX12_init_9 : decode cX12_init 9 = .ok (.aload_n 0, 1) := dk_42 (dk_at dksX12_init_0 9 rfl rfl)
theorem dX12_init_10 : decode cX12_init 10 = .ok (.new 15, 3) := dk_187 0 15 (dk_at dksX12_init_0 10 rfl rfl)
theorem dX12_init_13 : decode cX12_init 13 = .ok (.dup, 1) := dk_89 (dk_at dksX12_init_0 13 rfl rfl)
theorem dX12_init_14 : decode cX12_init 14 = .ok (.aload_n 0, 1) := dk_42 (dk_at dksX12_init_0 14 rfl rfl)
theorem dX12_init_15 : decode cX12_init 15 = .ok (.getfield 3, 3) := dk_180 0 3 (dk_at dksX12_init_0 15 rfl rfl)
theorem dX12_init_18 : decode cX12_init 18 = .ok (.invokespecial 17, 3) := dk_183 0 17 (dk_at dksX12_init_0 18 rfl rfl)
theorem dX12_init_21 : decode cX12_init 21 = .ok (.invokevirtual 20, 3) := dk_182 0 20 (dk_at dksX12_init_0 21 rfl rfl)
theorem dX12_init_24 : decode cX12_init 24 = .ok (.putfield 24, 3) := dk_181 0 24 (dk_at dksX12_init_1 0 rfl rfl)
theorem dX12_init_27 : decode cX12_init 27 = .ok (.aload_n 0, 1) := dk_42 (dk_at dksX12_init_1 3 rfl rfl)
theorem dX12_init_28 : decode cX12_init 28 = .ok (.iconst 5, 1) := dk_8 (dk_at dksX12_init_1 4 rfl rfl)
theorem dX12_init_29 : decode cX12_init 29 = .ok (.bipush 8, 2) := dk_16 8 (dk_at dksX12_init_1 5 rfl rfl)
theorem dX12_init_31 : decode cX12_init 31 = .ok (.multianewarray 28 2, 4) := by decide +kernel
theorem dX12_init_35 : decode cX12_init 35 = .ok (.putfield 30, 3) := dk_181 0 30 (dk_at dksX12_init_1 11 rfl rfl)
theorem dX12_init_38 : decode cX12_init 38 = .ok (.aload_n 0, 1) := dk_42 (dk_at dksX12_init_1 14 rfl rfl)
theorem dX12_init_39 : decode cX12_init 39 = .ok (.iload_n 2, 1) := dk_28 (dk_at dksX12_init_1 15 rfl rfl)
theorem dX12_init_40 : decode cX12_init 40 = .ok (.putfield 33, 3) := dk_181 0 33 (dk_at dksX12_init_1 16 rfl rfl)
theorem dX12_init_43 : decode cX12_init 43 = .ok (.return_, 1) := dk_177 (dk_at dksX12_init_1 19 rfl rfl)
abbrev cX12_takes : ByteArray := prog_10_method_4_code
def yX12_takes : MethodName := ⟨RX12, "takes", "([I)Z"⟩
def dkwX12_takes_11 : List UInt8 := [180, 0, 30, 28, 50, 21, 4, 92, 46, 4, 96, 79, 132, 4, 1, 167, 255, 234, 4, 172]
abbrev dktX12_takes_11 : List UInt8 := dkwX12_takes_11 ++ []
def dkwX12_takes_10 : List UInt8 := [28, 2, 160, 0, 5, 3, 172, 42, 28, 43, 29, 182, 0, 74, 54, 4, 21, 4, 29, 162, 0, 22, 42]
abbrev dktX12_takes_10 : List UInt8 := dkwX12_takes_10 ++ dktX12_takes_11
def dkwX12_takes_9 : List UInt8 := [161, 0, 6, 167, 0, 9, 21, 4, 61, 21, 6, 62, 132, 6, 1, 167, 255, 118, 132, 4, 1, 167, 255, 67]
abbrev dktX12_takes_9 : List UInt8 := dkwX12_takes_9 ++ dktX12_takes_10
def dkwX12_takes_8 : List UInt8 := [42, 180, 0, 24, 180, 0, 78, 21, 4, 50, 21, 6, 46, 42, 180, 0, 24, 180, 0, 78, 28, 50, 29, 46]
abbrev dktX12_takes_8 : List UInt8 := dkwX12_takes_8 ++ dktX12_takes_9
def dkwX12_takes_7 : List UInt8 := [163, 0, 60, 42, 21, 4, 21, 7, 21, 6, 182, 0, 81, 154, 0, 6, 167, 0, 44, 28, 2, 159, 0, 33]
abbrev dktX12_takes_7 : List UInt8 := dkwX12_takes_7 ++ dktX12_takes_8
def dkwX12_takes_6 : List UInt8 := [180, 0, 24, 180, 0, 78, 21, 4, 50, 21, 6, 46, 42, 180, 0, 3, 180, 0, 37, 180, 0, 62]
abbrev dktX12_takes_6 : List UInt8 := dkwX12_takes_6 ++ dktX12_takes_7
def dkwX12_takes_5 : List UInt8 := [54, 7, 25, 5, 21, 6, 182, 0, 55, 43, 4, 46, 160, 0, 92, 21, 7, 2, 159, 0, 86, 42]
abbrev dktX12_takes_5 : List UInt8 := dkwX12_takes_5 ++ dktX12_takes_6
def dkwX12_takes_4 : List UInt8 := [162, 0, 134, 42, 180, 0, 24, 21, 4, 182, 0, 70, 153, 0, 122, 42, 21, 4, 43, 21, 6, 182, 0, 74]
abbrev dktX12_takes_4 : List UInt8 := dkwX12_takes_4 ++ dktX12_takes_5
def dkwX12_takes_3 : List UInt8 := [21, 4, 185, 0, 47, 2, 0, 192, 0, 53, 58, 5, 4, 54, 6, 21, 6, 25, 5, 182, 0, 69]
abbrev dktX12_takes_3 : List UInt8 := dkwX12_takes_3 ++ dktX12_takes_4
def dkwX12_takes_2 : List UInt8 := [180, 0, 37, 180, 0, 41, 185, 0, 65, 1, 0, 162, 0, 175, 42, 180, 0, 3, 180, 0, 37, 180, 0, 41]
abbrev dktX12_takes_2 : List UInt8 := dkwX12_takes_2 ++ dktX12_takes_3
def dkwX12_takes_1 : List UInt8 := [163, 0, 7, 4, 167, 0, 4, 3, 172, 2, 61, 3, 62, 3, 54, 4, 21, 4, 42, 180, 0, 3]
abbrev dktX12_takes_1 : List UInt8 := dkwX12_takes_1 ++ dktX12_takes_2
def dkwX12_takes_0 : List UInt8 := [43, 3, 46, 43, 4, 46, 160, 0, 25, 43, 5, 46, 42, 180, 0, 3, 180, 0, 37, 180, 0, 62]
abbrev dktX12_takes_0 : List UInt8 := dkwX12_takes_0 ++ dktX12_takes_1
theorem dksX12_takes_0 : cX12_takes.data.toList.drop 0 = dktX12_takes_0 := by decide +kernel
theorem dksX12_takes_1 : cX12_takes.data.toList.drop 22 = dktX12_takes_1 := dk_seg dksX12_takes_0 22 rfl rfl
theorem dksX12_takes_2 : cX12_takes.data.toList.drop 44 = dktX12_takes_2 := dk_seg dksX12_takes_1 22 rfl rfl
theorem dksX12_takes_3 : cX12_takes.data.toList.drop 68 = dktX12_takes_3 := dk_seg dksX12_takes_2 24 rfl rfl
theorem dksX12_takes_4 : cX12_takes.data.toList.drop 90 = dktX12_takes_4 := dk_seg dksX12_takes_3 22 rfl rfl
theorem dksX12_takes_5 : cX12_takes.data.toList.drop 114 = dktX12_takes_5 := dk_seg dksX12_takes_4 24 rfl rfl
theorem dksX12_takes_6 : cX12_takes.data.toList.drop 136 = dktX12_takes_6 := dk_seg dksX12_takes_5 22 rfl rfl
theorem dksX12_takes_7 : cX12_takes.data.toList.drop 158 = dktX12_takes_7 := dk_seg dksX12_takes_6 22 rfl rfl
theorem dksX12_takes_8 : cX12_takes.data.toList.drop 182 = dktX12_takes_8 := dk_seg dksX12_takes_7 24 rfl rfl
theorem dksX12_takes_9 : cX12_takes.data.toList.drop 206 = dktX12_takes_9 := dk_seg dksX12_takes_8 24 rfl rfl
theorem dksX12_takes_10 : cX12_takes.data.toList.drop 230 = dktX12_takes_10 := dk_seg dksX12_takes_9 24 rfl rfl
theorem dksX12_takes_11 : cX12_takes.data.toList.drop 253 = dktX12_takes_11 := dk_seg dksX12_takes_10 23 rfl rfl
theorem dX12_takes_0 : decode cX12_takes 0 = .ok (.aload_n 1, 1) := dk_43 (dk_at dksX12_takes_0 0 rfl rfl)
theorem dX12_takes_1 : decode cX12_takes 1 = .ok (.iconst 0, 1) := dk_3 (dk_at dksX12_takes_0 1 rfl rfl)
theorem dX12_takes_2 : decode cX12_takes 2 = .ok (.iaload, 1) := dk_46 (dk_at dksX12_takes_0 2 rfl rfl)
theorem dX12_takes_3 : decode cX12_takes 3 = .ok (.aload_n 1, 1) := dk_43 (dk_at dksX12_takes_0 3 rfl rfl)
theorem dX12_takes_4 : decode cX12_takes 4 = .ok (.iconst 1, 1) := dk_4 (dk_at dksX12_takes_0 4 rfl rfl)
theorem dX12_takes_5 : decode cX12_takes 5 = .ok (.iaload, 1) := dk_46 (dk_at dksX12_takes_0 5 rfl rfl)
theorem dX12_takes_6 : decode cX12_takes 6 = .ok (.if_icmp .ne 25, 3) := dk_160 0 25 (dk_at dksX12_takes_0 6 rfl rfl)
theorem dX12_takes_9 : decode cX12_takes 9 = .ok (.aload_n 1, 1) := dk_43 (dk_at dksX12_takes_0 9 rfl rfl)
theorem dX12_takes_10 : decode cX12_takes 10 = .ok (.iconst 2, 1) := dk_5 (dk_at dksX12_takes_0 10 rfl rfl)
theorem dX12_takes_11 : decode cX12_takes 11 = .ok (.iaload, 1) := dk_46 (dk_at dksX12_takes_0 11 rfl rfl)
theorem dX12_takes_12 : decode cX12_takes 12 = .ok (.aload_n 0, 1) := dk_42 (dk_at dksX12_takes_0 12 rfl rfl)
theorem dX12_takes_13 : decode cX12_takes 13 = .ok (.getfield 3, 3) := dk_180 0 3 (dk_at dksX12_takes_0 13 rfl rfl)
theorem dX12_takes_16 : decode cX12_takes 16 = .ok (.getfield 37, 3) := dk_180 0 37 (dk_at dksX12_takes_0 16 rfl rfl)
theorem dX12_takes_19 : decode cX12_takes 19 = .ok (.getfield 62, 3) := dk_180 0 62 (dk_at dksX12_takes_0 19 rfl rfl)
theorem dX12_takes_22 : decode cX12_takes 22 = .ok (.if_icmp .gt 7, 3) := dk_163 0 7 (dk_at dksX12_takes_1 0 rfl rfl)
theorem dX12_takes_25 : decode cX12_takes 25 = .ok (.iconst 1, 1) := dk_4 (dk_at dksX12_takes_1 3 rfl rfl)
theorem dX12_takes_26 : decode cX12_takes 26 = .ok (.goto 4, 3) := dk_167 0 4 (dk_at dksX12_takes_1 4 rfl rfl)
theorem dX12_takes_29 : decode cX12_takes 29 = .ok (.iconst 0, 1) := dk_3 (dk_at dksX12_takes_1 7 rfl rfl)
theorem dX12_takes_30 : decode cX12_takes 30 = .ok (.ireturn, 1) := dk_172 (dk_at dksX12_takes_1 8 rfl rfl)
theorem dX12_takes_31 : decode cX12_takes 31 = .ok (.iconst (-1), 1) := dk_2 (dk_at dksX12_takes_1 9 rfl rfl)
theorem dX12_takes_32 : decode cX12_takes 32 = .ok (.istore_n 2, 1) := dk_61 (dk_at dksX12_takes_1 10 rfl rfl)
theorem dX12_takes_33 : decode cX12_takes 33 = .ok (.iconst 0, 1) := dk_3 (dk_at dksX12_takes_1 11 rfl rfl)
theorem dX12_takes_34 : decode cX12_takes 34 = .ok (.istore_n 3, 1) := dk_62 (dk_at dksX12_takes_1 12 rfl rfl)
theorem dX12_takes_35 : decode cX12_takes 35 = .ok (.iconst 0, 1) := dk_3 (dk_at dksX12_takes_1 13 rfl rfl)
theorem dX12_takes_36 : decode cX12_takes 36 = .ok (.istore 4, 2) := dk_54 4 (dk_at dksX12_takes_1 14 rfl rfl)
theorem dX12_takes_38 : decode cX12_takes 38 = .ok (.iload 4, 2) := dk_21 4 (dk_at dksX12_takes_1 16 rfl rfl)
theorem dX12_takes_40 : decode cX12_takes 40 = .ok (.aload_n 0, 1) := dk_42 (dk_at dksX12_takes_1 18 rfl rfl)
theorem dX12_takes_41 : decode cX12_takes 41 = .ok (.getfield 3, 3) := dk_180 0 3 (dk_at dksX12_takes_1 19 rfl rfl)
theorem dX12_takes_44 : decode cX12_takes 44 = .ok (.getfield 37, 3) := dk_180 0 37 (dk_at dksX12_takes_2 0 rfl rfl)
theorem dX12_takes_47 : decode cX12_takes 47 = .ok (.getfield 41, 3) := dk_180 0 41 (dk_at dksX12_takes_2 3 rfl rfl)
theorem dX12_takes_50 : decode cX12_takes 50 = .ok (.invokeinterface 65 1, 5) := by decide +kernel
theorem dX12_takes_55 : decode cX12_takes 55 = .ok (.if_icmp .ge 175, 3) := dk_162 0 175 (dk_at dksX12_takes_2 11 rfl rfl)
theorem dX12_takes_58 : decode cX12_takes 58 = .ok (.aload_n 0, 1) := dk_42 (dk_at dksX12_takes_2 14 rfl rfl)
theorem dX12_takes_59 : decode cX12_takes 59 = .ok (.getfield 3, 3) := dk_180 0 3 (dk_at dksX12_takes_2 15 rfl rfl)
theorem dX12_takes_62 : decode cX12_takes 62 = .ok (.getfield 37, 3) := dk_180 0 37 (dk_at dksX12_takes_2 18 rfl rfl)
theorem dX12_takes_65 : decode cX12_takes 65 = .ok (.getfield 41, 3) := dk_180 0 41 (dk_at dksX12_takes_2 21 rfl rfl)
theorem dX12_takes_68 : decode cX12_takes 68 = .ok (.iload 4, 2) := dk_21 4 (dk_at dksX12_takes_3 0 rfl rfl)
theorem dX12_takes_70 : decode cX12_takes 70 = .ok (.invokeinterface 47 2, 5) := by decide +kernel
theorem dX12_takes_75 : decode cX12_takes 75 = .ok (.checkcast 53, 3) := dk_192 0 53 (dk_at dksX12_takes_3 7 rfl rfl)
theorem dX12_takes_78 : decode cX12_takes 78 = .ok (.astore 5, 2) := dk_58 5 (dk_at dksX12_takes_3 10 rfl rfl)
theorem dX12_takes_80 : decode cX12_takes 80 = .ok (.iconst 1, 1) := dk_4 (dk_at dksX12_takes_3 12 rfl rfl)
theorem dX12_takes_81 : decode cX12_takes 81 = .ok (.istore 6, 2) := dk_54 6 (dk_at dksX12_takes_3 13 rfl rfl)
theorem dX12_takes_83 : decode cX12_takes 83 = .ok (.iload 6, 2) := dk_21 6 (dk_at dksX12_takes_3 15 rfl rfl)
theorem dX12_takes_85 : decode cX12_takes 85 = .ok (.aload 5, 2) := dk_25 5 (dk_at dksX12_takes_3 17 rfl rfl)
theorem dX12_takes_87 : decode cX12_takes 87 = .ok (.invokevirtual 69, 3) := dk_182 0 69 (dk_at dksX12_takes_3 19 rfl rfl)
theorem dX12_takes_90 : decode cX12_takes 90 = .ok (.if_icmp .ge 134, 3) := dk_162 0 134 (dk_at dksX12_takes_4 0 rfl rfl)
theorem dX12_takes_93 : decode cX12_takes 93 = .ok (.aload_n 0, 1) := dk_42 (dk_at dksX12_takes_4 3 rfl rfl)
theorem dX12_takes_94 : decode cX12_takes 94 = .ok (.getfield 24, 3) := dk_180 0 24 (dk_at dksX12_takes_4 4 rfl rfl)
theorem dX12_takes_97 : decode cX12_takes 97 = .ok (.iload 4, 2) := dk_21 4 (dk_at dksX12_takes_4 7 rfl rfl)
theorem dX12_takes_99 : decode cX12_takes 99 = .ok (.invokevirtual 70, 3) := dk_182 0 70 (dk_at dksX12_takes_4 9 rfl rfl)
theorem dX12_takes_102 : decode cX12_takes 102 = .ok (.ifCond .eq 122, 3) := dk_153 0 122 (dk_at dksX12_takes_4 12 rfl rfl)
theorem dX12_takes_105 : decode cX12_takes 105 = .ok (.aload_n 0, 1) := dk_42 (dk_at dksX12_takes_4 15 rfl rfl)
theorem dX12_takes_106 : decode cX12_takes 106 = .ok (.iload 4, 2) := dk_21 4 (dk_at dksX12_takes_4 16 rfl rfl)
theorem dX12_takes_108 : decode cX12_takes 108 = .ok (.aload_n 1, 1) := dk_43 (dk_at dksX12_takes_4 18 rfl rfl)
theorem dX12_takes_109 : decode cX12_takes 109 = .ok (.iload 6, 2) := dk_21 6 (dk_at dksX12_takes_4 19 rfl rfl)
theorem dX12_takes_111 : decode cX12_takes 111 = .ok (.invokevirtual 74, 3) := dk_182 0 74 (dk_at dksX12_takes_4 21 rfl rfl)
theorem dX12_takes_114 : decode cX12_takes 114 = .ok (.istore 7, 2) := dk_54 7 (dk_at dksX12_takes_5 0 rfl rfl)
theorem dX12_takes_116 : decode cX12_takes 116 = .ok (.aload 5, 2) := dk_25 5 (dk_at dksX12_takes_5 2 rfl rfl)
theorem dX12_takes_118 : decode cX12_takes 118 = .ok (.iload 6, 2) := dk_21 6 (dk_at dksX12_takes_5 4 rfl rfl)
theorem dX12_takes_120 : decode cX12_takes 120 = .ok (.invokevirtual 55, 3) := dk_182 0 55 (dk_at dksX12_takes_5 6 rfl rfl)
theorem dX12_takes_123 : decode cX12_takes 123 = .ok (.aload_n 1, 1) := dk_43 (dk_at dksX12_takes_5 9 rfl rfl)
theorem dX12_takes_124 : decode cX12_takes 124 = .ok (.iconst 1, 1) := dk_4 (dk_at dksX12_takes_5 10 rfl rfl)
theorem dX12_takes_125 : decode cX12_takes 125 = .ok (.iaload, 1) := dk_46 (dk_at dksX12_takes_5 11 rfl rfl)
theorem dX12_takes_126 : decode cX12_takes 126 = .ok (.if_icmp .ne 92, 3) := dk_160 0 92 (dk_at dksX12_takes_5 12 rfl rfl)
theorem dX12_takes_129 : decode cX12_takes 129 = .ok (.iload 7, 2) := dk_21 7 (dk_at dksX12_takes_5 15 rfl rfl)
theorem dX12_takes_131 : decode cX12_takes 131 = .ok (.iconst (-1), 1) := dk_2 (dk_at dksX12_takes_5 17 rfl rfl)
theorem dX12_takes_132 : decode cX12_takes 132 = .ok (.if_icmp .eq 86, 3) := dk_159 0 86 (dk_at dksX12_takes_5 18 rfl rfl)
theorem dX12_takes_135 : decode cX12_takes 135 = .ok (.aload_n 0, 1) := dk_42 (dk_at dksX12_takes_5 21 rfl rfl)
theorem dX12_takes_136 : decode cX12_takes 136 = .ok (.getfield 24, 3) := dk_180 0 24 (dk_at dksX12_takes_6 0 rfl rfl)
theorem dX12_takes_139 : decode cX12_takes 139 = .ok (.getfield 78, 3) := dk_180 0 78 (dk_at dksX12_takes_6 3 rfl rfl)
theorem dX12_takes_142 : decode cX12_takes 142 = .ok (.iload 4, 2) := dk_21 4 (dk_at dksX12_takes_6 6 rfl rfl)
theorem dX12_takes_144 : decode cX12_takes 144 = .ok (.aaload, 1) := dk_50 (dk_at dksX12_takes_6 8 rfl rfl)
theorem dX12_takes_145 : decode cX12_takes 145 = .ok (.iload 6, 2) := dk_21 6 (dk_at dksX12_takes_6 9 rfl rfl)
theorem dX12_takes_147 : decode cX12_takes 147 = .ok (.iaload, 1) := dk_46 (dk_at dksX12_takes_6 11 rfl rfl)
theorem dX12_takes_148 : decode cX12_takes 148 = .ok (.aload_n 0, 1) := dk_42 (dk_at dksX12_takes_6 12 rfl rfl)
theorem dX12_takes_149 : decode cX12_takes 149 = .ok (.getfield 3, 3) := dk_180 0 3 (dk_at dksX12_takes_6 13 rfl rfl)
theorem dX12_takes_152 : decode cX12_takes 152 = .ok (.getfield 37, 3) := dk_180 0 37 (dk_at dksX12_takes_6 16 rfl rfl)
theorem dX12_takes_155 : decode cX12_takes 155 = .ok (.getfield 62, 3) := dk_180 0 62 (dk_at dksX12_takes_6 19 rfl rfl)
theorem dX12_takes_158 : decode cX12_takes 158 = .ok (.if_icmp .gt 60, 3) := dk_163 0 60 (dk_at dksX12_takes_7 0 rfl rfl)
theorem dX12_takes_161 : decode cX12_takes 161 = .ok (.aload_n 0, 1) := dk_42 (dk_at dksX12_takes_7 3 rfl rfl)
theorem dX12_takes_162 : decode cX12_takes 162 = .ok (.iload 4, 2) := dk_21 4 (dk_at dksX12_takes_7 4 rfl rfl)
theorem dX12_takes_164 : decode cX12_takes 164 = .ok (.iload 7, 2) := dk_21 7 (dk_at dksX12_takes_7 6 rfl rfl)
theorem dX12_takes_166 : decode cX12_takes 166 = .ok (.iload 6, 2) := dk_21 6 (dk_at dksX12_takes_7 8 rfl rfl)
theorem dX12_takes_168 : decode cX12_takes 168 = .ok (.invokevirtual 81, 3) := dk_182 0 81 (dk_at dksX12_takes_7 10 rfl rfl)
theorem dX12_takes_171 : decode cX12_takes 171 = .ok (.ifCond .ne 6, 3) := dk_154 0 6 (dk_at dksX12_takes_7 13 rfl rfl)
theorem dX12_takes_174 : decode cX12_takes 174 = .ok (.goto 44, 3) := dk_167 0 44 (dk_at dksX12_takes_7 16 rfl rfl)
theorem dX12_takes_177 : decode cX12_takes 177 = .ok (.iload_n 2, 1) := dk_28 (dk_at dksX12_takes_7 19 rfl rfl)
theorem dX12_takes_178 : decode cX12_takes 178 = .ok (.iconst (-1), 1) := dk_2 (dk_at dksX12_takes_7 20 rfl rfl)
theorem dX12_takes_179 : decode cX12_takes 179 = .ok (.if_icmp .eq 33, 3) := dk_159 0 33 (dk_at dksX12_takes_7 21 rfl rfl)
theorem dX12_takes_182 : decode cX12_takes 182 = .ok (.aload_n 0, 1) := dk_42 (dk_at dksX12_takes_8 0 rfl rfl)
theorem dX12_takes_183 : decode cX12_takes 183 = .ok (.getfield 24, 3) := dk_180 0 24 (dk_at dksX12_takes_8 1 rfl rfl)
theorem dX12_takes_186 : decode cX12_takes 186 = .ok (.getfield 78, 3) := dk_180 0 78 (dk_at dksX12_takes_8 4 rfl rfl)
theorem dX12_takes_189 : decode cX12_takes 189 = .ok (.iload 4, 2) := dk_21 4 (dk_at dksX12_takes_8 7 rfl rfl)
theorem dX12_takes_191 : decode cX12_takes 191 = .ok (.aaload, 1) := dk_50 (dk_at dksX12_takes_8 9 rfl rfl)
theorem dX12_takes_192 : decode cX12_takes 192 = .ok (.iload 6, 2) := dk_21 6 (dk_at dksX12_takes_8 10 rfl rfl)
theorem dX12_takes_194 : decode cX12_takes 194 = .ok (.iaload, 1) := dk_46 (dk_at dksX12_takes_8 12 rfl rfl)
theorem dX12_takes_195 : decode cX12_takes 195 = .ok (.aload_n 0, 1) := dk_42 (dk_at dksX12_takes_8 13 rfl rfl)
theorem dX12_takes_196 : decode cX12_takes 196 = .ok (.getfield 24, 3) := dk_180 0 24 (dk_at dksX12_takes_8 14 rfl rfl)
theorem dX12_takes_199 : decode cX12_takes 199 = .ok (.getfield 78, 3) := dk_180 0 78 (dk_at dksX12_takes_8 17 rfl rfl)
theorem dX12_takes_202 : decode cX12_takes 202 = .ok (.iload_n 2, 1) := dk_28 (dk_at dksX12_takes_8 20 rfl rfl)
theorem dX12_takes_203 : decode cX12_takes 203 = .ok (.aaload, 1) := dk_50 (dk_at dksX12_takes_8 21 rfl rfl)
theorem dX12_takes_204 : decode cX12_takes 204 = .ok (.iload_n 3, 1) := dk_29 (dk_at dksX12_takes_8 22 rfl rfl)
theorem dX12_takes_205 : decode cX12_takes 205 = .ok (.iaload, 1) := dk_46 (dk_at dksX12_takes_8 23 rfl rfl)
theorem dX12_takes_206 : decode cX12_takes 206 = .ok (.if_icmp .lt 6, 3) := dk_161 0 6 (dk_at dksX12_takes_9 0 rfl rfl)
theorem dX12_takes_209 : decode cX12_takes 209 = .ok (.goto 9, 3) := dk_167 0 9 (dk_at dksX12_takes_9 3 rfl rfl)
theorem dX12_takes_212 : decode cX12_takes 212 = .ok (.iload 4, 2) := dk_21 4 (dk_at dksX12_takes_9 6 rfl rfl)
theorem dX12_takes_214 : decode cX12_takes 214 = .ok (.istore_n 2, 1) := dk_61 (dk_at dksX12_takes_9 8 rfl rfl)
theorem dX12_takes_215 : decode cX12_takes 215 = .ok (.iload 6, 2) := dk_21 6 (dk_at dksX12_takes_9 9 rfl rfl)
theorem dX12_takes_217 : decode cX12_takes 217 = .ok (.istore_n 3, 1) := dk_62 (dk_at dksX12_takes_9 11 rfl rfl)
theorem dX12_takes_218 : decode cX12_takes 218 = .ok (.iinc 6 1, 3) := dk_132 6 1 (dk_at dksX12_takes_9 12 rfl rfl)
theorem dX12_takes_221 : decode cX12_takes 221 = .ok (.goto (-138), 3) := dk_167 255 118 (dk_at dksX12_takes_9 15 rfl rfl)
theorem dX12_takes_224 : decode cX12_takes 224 = .ok (.iinc 4 1, 3) := dk_132 4 1 (dk_at dksX12_takes_9 18 rfl rfl)
theorem dX12_takes_227 : decode cX12_takes 227 = .ok (.goto (-189), 3) := dk_167 255 67 (dk_at dksX12_takes_9 21 rfl rfl)
theorem dX12_takes_230 : decode cX12_takes 230 = .ok (.iload_n 2, 1) := dk_28 (dk_at dksX12_takes_10 0 rfl rfl)
theorem dX12_takes_231 : decode cX12_takes 231 = .ok (.iconst (-1), 1) := dk_2 (dk_at dksX12_takes_10 1 rfl rfl)
theorem dX12_takes_232 : decode cX12_takes 232 = .ok (.if_icmp .ne 5, 3) := dk_160 0 5 (dk_at dksX12_takes_10 2 rfl rfl)
theorem dX12_takes_235 : decode cX12_takes 235 = .ok (.iconst 0, 1) := dk_3 (dk_at dksX12_takes_10 5 rfl rfl)
theorem dX12_takes_236 : decode cX12_takes 236 = .ok (.ireturn, 1) := dk_172 (dk_at dksX12_takes_10 6 rfl rfl)
theorem dX12_takes_237 : decode cX12_takes 237 = .ok (.aload_n 0, 1) := dk_42 (dk_at dksX12_takes_10 7 rfl rfl)
theorem dX12_takes_238 : decode cX12_takes 238 = .ok (.iload_n 2, 1) := dk_28 (dk_at dksX12_takes_10 8 rfl rfl)
theorem dX12_takes_239 : decode cX12_takes 239 = .ok (.aload_n 1, 1) := dk_43 (dk_at dksX12_takes_10 9 rfl rfl)
theorem dX12_takes_240 : decode cX12_takes 240 = .ok (.iload_n 3, 1) := dk_29 (dk_at dksX12_takes_10 10 rfl rfl)
theorem dX12_takes_241 : decode cX12_takes 241 = .ok (.invokevirtual 74, 3) := dk_182 0 74 (dk_at dksX12_takes_10 11 rfl rfl)
theorem dX12_takes_244 : decode cX12_takes 244 = .ok (.istore 4, 2) := dk_54 4 (dk_at dksX12_takes_10 14 rfl rfl)
theorem dX12_takes_246 : decode cX12_takes 246 = .ok (.iload 4, 2) := dk_21 4 (dk_at dksX12_takes_10 16 rfl rfl)
theorem dX12_takes_248 : decode cX12_takes 248 = .ok (.iload_n 3, 1) := dk_29 (dk_at dksX12_takes_10 18 rfl rfl)
theorem dX12_takes_249 : decode cX12_takes 249 = .ok (.if_icmp .ge 22, 3) := dk_162 0 22 (dk_at dksX12_takes_10 19 rfl rfl)
theorem dX12_takes_252 : decode cX12_takes 252 = .ok (.aload_n 0, 1) := dk_42 (dk_at dksX12_takes_10 22 rfl rfl)
theorem dX12_takes_253 : decode cX12_takes 253 = .ok (.getfield 30, 3) := dk_180 0 30 (dk_at dksX12_takes_11 0 rfl rfl)
theorem dX12_takes_256 : decode cX12_takes 256 = .ok (.iload_n 2, 1) := dk_28 (dk_at dksX12_takes_11 3 rfl rfl)
theorem dX12_takes_257 : decode cX12_takes 257 = .ok (.aaload, 1) := dk_50 (dk_at dksX12_takes_11 4 rfl rfl)
theorem dX12_takes_258 : decode cX12_takes 258 = .ok (.iload 4, 2) := dk_21 4 (dk_at dksX12_takes_11 5 rfl rfl)
theorem dX12_takes_260 : decode cX12_takes 260 = .ok (.dup2, 1) := dk_92 (dk_at dksX12_takes_11 7 rfl rfl)
theorem dX12_takes_261 : decode cX12_takes 261 = .ok (.iaload, 1) := dk_46 (dk_at dksX12_takes_11 8 rfl rfl)
theorem dX12_takes_262 : decode cX12_takes 262 = .ok (.iconst 1, 1) := dk_4 (dk_at dksX12_takes_11 9 rfl rfl)
theorem dX12_takes_263 : decode cX12_takes 263 = .ok (.iadd, 1) := dk_96 (dk_at dksX12_takes_11 10 rfl rfl)
theorem dX12_takes_264 : decode cX12_takes 264 = .ok (.iastore, 1) := dk_79 (dk_at dksX12_takes_11 11 rfl rfl)
theorem dX12_takes_265 : decode cX12_takes 265 = .ok (.iinc 4 1, 3) := dk_132 4 1 (dk_at dksX12_takes_11 12 rfl rfl)
theorem dX12_takes_268 : decode cX12_takes 268 = .ok (.goto (-22), 3) := dk_167 255 234 (dk_at dksX12_takes_11 15 rfl rfl)
theorem dX12_takes_271 : decode cX12_takes 271 = .ok (.iconst 1, 1) := dk_4 (dk_at dksX12_takes_11 18 rfl rfl)
theorem dX12_takes_272 : decode cX12_takes 272 = .ok (.ireturn, 1) := dk_172 (dk_at dksX12_takes_11 19 rfl rfl)
abbrev cX12_from : ByteArray := prog_10_method_2_code
def yX12_from : MethodName := ⟨RX12, "from", "(I[II)I"⟩
def dkwX12_from_3 : List UInt8 := [172]
abbrev dktX12_from_3 : List UInt8 := dkwX12_from_3 ++ []
def dkwX12_from_2 : List UInt8 := [180, 0, 24, 180, 0, 59, 27, 50, 21, 5, 46, 163, 0, 6, 21, 5, 172, 132, 5, 255, 167, 255, 214, 2]
abbrev dktX12_from_2 : List UInt8 := dkwX12_from_2 ++ dktX12_from_3
def dkwX12_from_1 : List UInt8 := [54, 5, 21, 5, 155, 0, 43, 25, 4, 21, 5, 182, 0, 55, 44, 3, 46, 160, 0, 24, 44, 5, 46, 42]
abbrev dktX12_from_1 : List UInt8 := dkwX12_from_1 ++ dktX12_from_2
def dkwX12_from_0 : List UInt8 := [42, 180, 0, 3, 180, 0, 37, 180, 0, 41, 27, 185, 0, 47, 2, 0, 192, 0, 53, 58, 4, 29, 4, 100]
abbrev dktX12_from_0 : List UInt8 := dkwX12_from_0 ++ dktX12_from_1
theorem dksX12_from_0 : cX12_from.data.toList.drop 0 = dktX12_from_0 := by decide +kernel
theorem dksX12_from_1 : cX12_from.data.toList.drop 24 = dktX12_from_1 := dk_seg dksX12_from_0 24 rfl rfl
theorem dksX12_from_2 : cX12_from.data.toList.drop 48 = dktX12_from_2 := dk_seg dksX12_from_1 24 rfl rfl
theorem dksX12_from_3 : cX12_from.data.toList.drop 72 = dktX12_from_3 := dk_seg dksX12_from_2 24 rfl rfl
theorem dX12_from_0 : decode cX12_from 0 = .ok (.aload_n 0, 1) := dk_42 (dk_at dksX12_from_0 0 rfl rfl)
theorem dX12_from_1 : decode cX12_from 1 = .ok (.getfield 3, 3) := dk_180 0 3 (dk_at dksX12_from_0 1 rfl rfl)
theorem dX12_from_4 : decode cX12_from 4 = .ok (.getfield 37, 3) := dk_180 0 37 (dk_at dksX12_from_0 4 rfl rfl)
theorem dX12_from_7 : decode cX12_from 7 = .ok (.getfield 41, 3) := dk_180 0 41 (dk_at dksX12_from_0 7 rfl rfl)
theorem dX12_from_10 : decode cX12_from 10 = .ok (.iload_n 1, 1) := dk_27 (dk_at dksX12_from_0 10 rfl rfl)
theorem dX12_from_11 : decode cX12_from 11 = .ok (.invokeinterface 47 2, 5) := by decide +kernel
theorem dX12_from_16 : decode cX12_from 16 = .ok (.checkcast 53, 3) := dk_192 0 53 (dk_at dksX12_from_0 16 rfl rfl)
theorem dX12_from_19 : decode cX12_from 19 = .ok (.astore 4, 2) := dk_58 4 (dk_at dksX12_from_0 19 rfl rfl)
theorem dX12_from_21 : decode cX12_from 21 = .ok (.iload_n 3, 1) := dk_29 (dk_at dksX12_from_0 21 rfl rfl)
theorem dX12_from_22 : decode cX12_from 22 = .ok (.iconst 1, 1) := dk_4 (dk_at dksX12_from_0 22 rfl rfl)
theorem dX12_from_23 : decode cX12_from 23 = .ok (.isub, 1) := dk_100 (dk_at dksX12_from_0 23 rfl rfl)
theorem dX12_from_24 : decode cX12_from 24 = .ok (.istore 5, 2) := dk_54 5 (dk_at dksX12_from_1 0 rfl rfl)
theorem dX12_from_26 : decode cX12_from 26 = .ok (.iload 5, 2) := dk_21 5 (dk_at dksX12_from_1 2 rfl rfl)
theorem dX12_from_28 : decode cX12_from 28 = .ok (.ifCond .lt 43, 3) := dk_155 0 43 (dk_at dksX12_from_1 4 rfl rfl)
theorem dX12_from_31 : decode cX12_from 31 = .ok (.aload 4, 2) := dk_25 4 (dk_at dksX12_from_1 7 rfl rfl)
theorem dX12_from_33 : decode cX12_from 33 = .ok (.iload 5, 2) := dk_21 5 (dk_at dksX12_from_1 9 rfl rfl)
theorem dX12_from_35 : decode cX12_from 35 = .ok (.invokevirtual 55, 3) := dk_182 0 55 (dk_at dksX12_from_1 11 rfl rfl)
theorem dX12_from_38 : decode cX12_from 38 = .ok (.aload_n 2, 1) := dk_44 (dk_at dksX12_from_1 14 rfl rfl)
theorem dX12_from_39 : decode cX12_from 39 = .ok (.iconst 0, 1) := dk_3 (dk_at dksX12_from_1 15 rfl rfl)
theorem dX12_from_40 : decode cX12_from 40 = .ok (.iaload, 1) := dk_46 (dk_at dksX12_from_1 16 rfl rfl)
theorem dX12_from_41 : decode cX12_from 41 = .ok (.if_icmp .ne 24, 3) := dk_160 0 24 (dk_at dksX12_from_1 17 rfl rfl)
theorem dX12_from_44 : decode cX12_from 44 = .ok (.aload_n 2, 1) := dk_44 (dk_at dksX12_from_1 20 rfl rfl)
theorem dX12_from_45 : decode cX12_from 45 = .ok (.iconst 2, 1) := dk_5 (dk_at dksX12_from_1 21 rfl rfl)
theorem dX12_from_46 : decode cX12_from 46 = .ok (.iaload, 1) := dk_46 (dk_at dksX12_from_1 22 rfl rfl)
theorem dX12_from_47 : decode cX12_from 47 = .ok (.aload_n 0, 1) := dk_42 (dk_at dksX12_from_1 23 rfl rfl)
theorem dX12_from_48 : decode cX12_from 48 = .ok (.getfield 24, 3) := dk_180 0 24 (dk_at dksX12_from_2 0 rfl rfl)
theorem dX12_from_51 : decode cX12_from 51 = .ok (.getfield 59, 3) := dk_180 0 59 (dk_at dksX12_from_2 3 rfl rfl)
theorem dX12_from_54 : decode cX12_from 54 = .ok (.iload_n 1, 1) := dk_27 (dk_at dksX12_from_2 6 rfl rfl)
theorem dX12_from_55 : decode cX12_from 55 = .ok (.aaload, 1) := dk_50 (dk_at dksX12_from_2 7 rfl rfl)
theorem dX12_from_56 : decode cX12_from 56 = .ok (.iload 5, 2) := dk_21 5 (dk_at dksX12_from_2 8 rfl rfl)
theorem dX12_from_58 : decode cX12_from 58 = .ok (.iaload, 1) := dk_46 (dk_at dksX12_from_2 10 rfl rfl)
theorem dX12_from_59 : decode cX12_from 59 = .ok (.if_icmp .gt 6, 3) := dk_163 0 6 (dk_at dksX12_from_2 11 rfl rfl)
theorem dX12_from_62 : decode cX12_from 62 = .ok (.iload 5, 2) := dk_21 5 (dk_at dksX12_from_2 14 rfl rfl)
theorem dX12_from_64 : decode cX12_from 64 = .ok (.ireturn, 1) := dk_172 (dk_at dksX12_from_2 16 rfl rfl)
theorem dX12_from_65 : decode cX12_from 65 = .ok (.iinc 5 (-1), 3) := dk_132 5 255 (dk_at dksX12_from_2 17 rfl rfl)
theorem dX12_from_68 : decode cX12_from 68 = .ok (.goto (-42), 3) := dk_167 255 214 (dk_at dksX12_from_2 20 rfl rfl)
theorem dX12_from_71 : decode cX12_from 71 = .ok (.iconst (-1), 1) := dk_2 (dk_at dksX12_from_2 23 rfl rfl)
theorem dX12_from_72 : decode cX12_from 72 = .ok (.ireturn, 1) := dk_172 (dk_at dksX12_from_3 0 rfl rfl)
abbrev cX12_isFree : ByteArray := prog_10_method_3_code
def yX12_isFree : MethodName := ⟨RX12, "isFree", "(III)Z"⟩
def dkwX12_isFree_1 : List UInt8 := [160, 0, 5, 3, 172, 132, 4, 1, 167, 255, 229, 4, 172]
abbrev dktX12_isFree_1 : List UInt8 := dkwX12_isFree_1 ++ []
def dkwX12_isFree_0 : List UInt8 := [28, 54, 4, 21, 4, 29, 162, 0, 27, 42, 180, 0, 30, 27, 50, 21, 4, 46, 42, 180, 0, 33]
abbrev dktX12_isFree_0 : List UInt8 := dkwX12_isFree_0 ++ dktX12_isFree_1
theorem dksX12_isFree_0 : cX12_isFree.data.toList.drop 0 = dktX12_isFree_0 := by decide +kernel
theorem dksX12_isFree_1 : cX12_isFree.data.toList.drop 22 = dktX12_isFree_1 := dk_seg dksX12_isFree_0 22 rfl rfl
theorem dX12_isFree_0 : decode cX12_isFree 0 = .ok (.iload_n 2, 1) := dk_28 (dk_at dksX12_isFree_0 0 rfl rfl)
theorem dX12_isFree_1 : decode cX12_isFree 1 = .ok (.istore 4, 2) := dk_54 4 (dk_at dksX12_isFree_0 1 rfl rfl)
theorem dX12_isFree_3 : decode cX12_isFree 3 = .ok (.iload 4, 2) := dk_21 4 (dk_at dksX12_isFree_0 3 rfl rfl)
theorem dX12_isFree_5 : decode cX12_isFree 5 = .ok (.iload_n 3, 1) := dk_29 (dk_at dksX12_isFree_0 5 rfl rfl)
theorem dX12_isFree_6 : decode cX12_isFree 6 = .ok (.if_icmp .ge 27, 3) := dk_162 0 27 (dk_at dksX12_isFree_0 6 rfl rfl)
theorem dX12_isFree_9 : decode cX12_isFree 9 = .ok (.aload_n 0, 1) := dk_42 (dk_at dksX12_isFree_0 9 rfl rfl)
theorem dX12_isFree_10 : decode cX12_isFree 10 = .ok (.getfield 30, 3) := dk_180 0 30 (dk_at dksX12_isFree_0 10 rfl rfl)
theorem dX12_isFree_13 : decode cX12_isFree 13 = .ok (.iload_n 1, 1) := dk_27 (dk_at dksX12_isFree_0 13 rfl rfl)
theorem dX12_isFree_14 : decode cX12_isFree 14 = .ok (.aaload, 1) := dk_50 (dk_at dksX12_isFree_0 14 rfl rfl)
theorem dX12_isFree_15 : decode cX12_isFree 15 = .ok (.iload 4, 2) := dk_21 4 (dk_at dksX12_isFree_0 15 rfl rfl)
theorem dX12_isFree_17 : decode cX12_isFree 17 = .ok (.iaload, 1) := dk_46 (dk_at dksX12_isFree_0 17 rfl rfl)
theorem dX12_isFree_18 : decode cX12_isFree 18 = .ok (.aload_n 0, 1) := dk_42 (dk_at dksX12_isFree_0 18 rfl rfl)
theorem dX12_isFree_19 : decode cX12_isFree 19 = .ok (.getfield 33, 3) := dk_180 0 33 (dk_at dksX12_isFree_0 19 rfl rfl)
theorem dX12_isFree_22 : decode cX12_isFree 22 = .ok (.if_icmp .ne 5, 3) := dk_160 0 5 (dk_at dksX12_isFree_1 0 rfl rfl)
theorem dX12_isFree_25 : decode cX12_isFree 25 = .ok (.iconst 0, 1) := dk_3 (dk_at dksX12_isFree_1 3 rfl rfl)
theorem dX12_isFree_26 : decode cX12_isFree 26 = .ok (.ireturn, 1) := dk_172 (dk_at dksX12_isFree_1 4 rfl rfl)
theorem dX12_isFree_27 : decode cX12_isFree 27 = .ok (.iinc 4 1, 3) := dk_132 4 1 (dk_at dksX12_isFree_1 5 rfl rfl)
theorem dX12_isFree_30 : decode cX12_isFree 30 = .ok (.goto (-27), 3) := dk_167 255 229 (dk_at dksX12_isFree_1 8 rfl rfl)
theorem dX12_isFree_33 : decode cX12_isFree 33 = .ok (.iconst 1, 1) := dk_4 (dk_at dksX12_isFree_1 11 rfl rfl)
theorem dX12_isFree_34 : decode cX12_isFree 34 = .ok (.ireturn, 1) := dk_172 (dk_at dksX12_isFree_1 12 rfl rfl)
theorem q145 : (Jvm.Cond.initialized "WingTrams$Straps") ∈ lw_all := lw_g (lw_at lw_m1 35 rfl) rfl
theorem q198 : (Jvm.Cond.fieldLinkNest "WingTrams$Straps" (41 : Nat) "WingTrams$City" "owls" "Ljava/util/List;" "WingTrams") ∈ lw_tbl := lw_at lw_m1 88 rfl
theorem q217 : (Jvm.Cond.fieldLinkNest "WingTrams$Straps" (62 : Nat) "WingTrams$City" "dawn" "I" "WingTrams") ∈ lw_tbl := lw_at lw_m1 107 rfl
theorem q240 : (Jvm.Cond.fieldLinkNest "WingTrams$Straps" (37 : Nat) "WingTrams" "city" "LWingTrams$City;" "WingTrams") ∈ lw_tbl := lw_at lw_m1 130 rfl
theorem q375 : (Jvm.Cond.selects "WingTrams$Straps" ({ cls := "java/lang/Object", name := "getClass", desc := "()Ljava/lang/Class;" } : Jvm.MethodName) ({ cls := "java/lang/Object", name := "getClass", desc := "()Ljava/lang/Class;" } : Jvm.MethodName)) ∈ lw_all := lw_g (lw_at lw_m2 25 rfl) rfl
theorem q490 : (Jvm.Cond.fieldLinkNest "WingTrams$Straps" (78 : Nat) "WingTrams$Night" "comes" "[[I" "WingTrams") ∈ lw_tbl := lw_at lw_m2 140 rfl
theorem q493 : (Jvm.Cond.fieldLinkNest "WingTrams$Straps" (59 : Nat) "WingTrams$Night" "leaves" "[[I" "WingTrams") ∈ lw_tbl := lw_at lw_m2 143 rfl
theorem q1504 : (Jvm.Cond.instantiable "WingTrams$Straps" (4 : Nat)) ∈ lw_all := lw_g (lw_at lw_m6 194 rfl) rfl
theorem q1506 : (Jvm.Cond.instanceMethod ({ cls := "WingTrams$Straps", name := "<init>", desc := "(LWingTrams;I)V" } : Jvm.MethodName)) ∈ lw_all := lw_g (lw_at lw_m6 196 rfl) rfl
theorem q1507 : (Jvm.Cond.code ({ cls := "WingTrams$Straps", name := "<init>", desc := "(LWingTrams;I)V" } : Jvm.MethodName) prog_10_method_1_code (3 : Nat) (Option.none : Option Jvm.ClassFile.FieldType)) ∈ lw_all := lw_g (lw_at lw_m6 197 rfl) rfl
theorem q1508 : (Jvm.Cond.methodLink "WingTrams$Straps" (9 : Nat) ({ cls := "java/lang/Object", name := "<init>", desc := "()V" } : Jvm.MethodName)) ∈ lw_all := lw_g (lw_at lw_m6 198 rfl) rfl
theorem q1509 : (Jvm.Cond.classLink "WingTrams$Straps" (15 : Nat) "WingTrams$Night") ∈ lw_all := lw_g (lw_at lw_m6 199 rfl) rfl
theorem q1510 : (Jvm.Cond.methodLinkNest "WingTrams$Straps" (17 : Nat) ({ cls := "WingTrams$Night", name := "<init>", desc := "(LWingTrams;)V" } : Jvm.MethodName) "WingTrams") ∈ lw_tbl := lw_at lw_m6 200 rfl
theorem q1511 : (Jvm.Cond.methodLink "WingTrams$Straps" (20 : Nat) ({ cls := "WingTrams$Night", name := "run", desc := "()LWingTrams$Night;" } : Jvm.MethodName)) ∈ lw_all := lw_g (lw_at lw_m6 201 rfl) rfl
theorem q1512 : (Jvm.Cond.classLink "WingTrams$Straps" (28 : Nat) "[[I") ∈ lw_all := lw_g (lw_at lw_m6 202 rfl) rfl
theorem q1513 : (Jvm.Cond.fieldLink "WingTrams$Straps" (24 : Nat) "WingTrams$Straps" "night" "LWingTrams$Night;") ∈ lw_all := lw_g (lw_at lw_m6 203 rfl) rfl
theorem q1514 : (Jvm.Cond.fieldLink "WingTrams$Straps" (30 : Nat) "WingTrams$Straps" "on" "[[I") ∈ lw_all := lw_g (lw_at lw_m6 204 rfl) rfl
theorem q1515 : (Jvm.Cond.fieldLink "WingTrams$Straps" (33 : Nat) "WingTrams$Straps" "many" "I") ∈ lw_all := lw_g (lw_at lw_m6 205 rfl) rfl
theorem q1516 : (Jvm.Cond.fieldLink "WingTrams$Straps" (3 : Nat) "WingTrams$Straps" "this$0" "LWingTrams;") ∈ lw_all := lw_g (lw_at lw_m6 206 rfl) rfl
theorem q1517 : (Jvm.Cond.laysFinal "WingTrams$Straps" "WingTrams$Straps" "night" "LWingTrams$Night;") ∈ lw_all := lw_g (lw_at lw_m6 207 rfl) rfl
theorem q1518 : (Jvm.Cond.soleField "WingTrams$Straps" "night") ∈ lw_all := lw_g (lw_at lw_m6 208 rfl) rfl
theorem q1519 : (Jvm.Cond.laysFinal "WingTrams$Straps" "WingTrams$Straps" "on" "[[I") ∈ lw_all := lw_g (lw_at lw_m6 209 rfl) rfl
theorem q1520 : (Jvm.Cond.soleField "WingTrams$Straps" "on") ∈ lw_all := lw_g (lw_at lw_m6 210 rfl) rfl
theorem q1521 : (Jvm.Cond.laysFinal "WingTrams$Straps" "WingTrams$Straps" "many" "I") ∈ lw_all := lw_g (lw_at lw_m6 211 rfl) rfl
theorem q1522 : (Jvm.Cond.soleField "WingTrams$Straps" "many") ∈ lw_all := lw_g (lw_at lw_m6 212 rfl) rfl
theorem q1523 : (Jvm.Cond.laysFinal "WingTrams$Straps" "WingTrams$Straps" "this$0" "LWingTrams;") ∈ lw_all := lw_g (lw_at lw_m6 213 rfl) rfl
theorem q1524 : (Jvm.Cond.soleField "WingTrams$Straps" "this$0") ∈ lw_all := lw_g (lw_at lw_m6 214 rfl) rfl
theorem q1525 : (Jvm.Cond.superclass "WingTrams$Straps" "java/lang/Object") ∈ lw_all := lw_g (lw_at lw_m6 215 rfl) rfl
theorem q1527 : (Jvm.Cond.instanceMethod ({ cls := "WingTrams$Straps", name := "takes", desc := "([I)Z" } : Jvm.MethodName)) ∈ lw_all := lw_g (lw_at lw_m6 217 rfl) rfl
theorem q1528 : (Jvm.Cond.selects "WingTrams$Straps" ({ cls := "WingTrams$Straps", name := "takes", desc := "([I)Z" } : Jvm.MethodName) ({ cls := "WingTrams$Straps", name := "takes", desc := "([I)Z" } : Jvm.MethodName)) ∈ lw_all := lw_g (lw_at lw_m6 218 rfl) rfl
theorem q1529 : (Jvm.Cond.code ({ cls := "WingTrams$Straps", name := "takes", desc := "([I)Z" } : Jvm.MethodName) prog_10_method_4_code (8 : Nat) (Option.some Jvm.ClassFile.FieldType.boolean)) ∈ lw_all := lw_g (lw_at lw_m6 219 rfl) rfl
theorem q1530 : (Jvm.Cond.interfaceEntry "WingTrams$Straps" (65 : Nat)) ∈ lw_tbl := lw_at lw_m6 220 rfl
theorem q1531 : (Jvm.Cond.methodLink "WingTrams$Straps" (65 : Nat) ({ cls := "java/util/List", name := "size", desc := "()I" } : Jvm.MethodName)) ∈ lw_all := lw_g (lw_at lw_m6 221 rfl) rfl
theorem q1532 : (Jvm.Cond.interfaceEntry "WingTrams$Straps" (47 : Nat)) ∈ lw_tbl := lw_at lw_m6 222 rfl
theorem q1533 : (Jvm.Cond.methodLink "WingTrams$Straps" (47 : Nat) ({ cls := "java/util/List", name := "get", desc := "(I)Ljava/lang/Object;" } : Jvm.MethodName)) ∈ lw_all := lw_g (lw_at lw_m6 223 rfl) rfl
theorem q1534 : (Jvm.Cond.classLink "WingTrams$Straps" (53 : Nat) "WingTrams$Owl") ∈ lw_all := lw_g (lw_at lw_m6 224 rfl) rfl
theorem q1535 : (Jvm.Cond.methodLink "WingTrams$Straps" (69 : Nat) ({ cls := "WingTrams$Owl", name := "size", desc := "()I" } : Jvm.MethodName)) ∈ lw_all := lw_g (lw_at lw_m6 225 rfl) rfl
theorem q1536 : (Jvm.Cond.methodLink "WingTrams$Straps" (70 : Nat) ({ cls := "WingTrams$Night", name := "isOut", desc := "(I)Z" } : Jvm.MethodName)) ∈ lw_all := lw_g (lw_at lw_m6 226 rfl) rfl
theorem q1537 : (Jvm.Cond.methodLink "WingTrams$Straps" (74 : Nat) ({ cls := "WingTrams$Straps", name := "from", desc := "(I[II)I" } : Jvm.MethodName)) ∈ lw_all := lw_g (lw_at lw_m6 227 rfl) rfl
theorem q1538 : (Jvm.Cond.privateMethod ({ cls := "WingTrams$Straps", name := "from", desc := "(I[II)I" } : Jvm.MethodName)) ∈ lw_tbl := lw_at lw_m6 228 rfl
theorem q1539 : (Jvm.Cond.instanceMethod ({ cls := "WingTrams$Straps", name := "from", desc := "(I[II)I" } : Jvm.MethodName)) ∈ lw_all := lw_g (lw_at lw_m6 229 rfl) rfl
theorem q1540 : (Jvm.Cond.code ({ cls := "WingTrams$Straps", name := "from", desc := "(I[II)I" } : Jvm.MethodName) prog_10_method_2_code (6 : Nat) (Option.some Jvm.ClassFile.FieldType.int)) ∈ lw_all := lw_g (lw_at lw_m6 230 rfl) rfl
theorem q1541 : (Jvm.Cond.methodLink "WingTrams$Straps" (55 : Nat) ({ cls := "WingTrams$Owl", name := "at", desc := "(I)I" } : Jvm.MethodName)) ∈ lw_all := lw_g (lw_at lw_m6 231 rfl) rfl
theorem q1542 : (Jvm.Cond.methodLink "WingTrams$Straps" (81 : Nat) ({ cls := "WingTrams$Straps", name := "isFree", desc := "(III)Z" } : Jvm.MethodName)) ∈ lw_all := lw_g (lw_at lw_m6 232 rfl) rfl
theorem q1543 : (Jvm.Cond.privateMethod ({ cls := "WingTrams$Straps", name := "isFree", desc := "(III)Z" } : Jvm.MethodName)) ∈ lw_tbl := lw_at lw_m6 233 rfl
theorem q1544 : (Jvm.Cond.instanceMethod ({ cls := "WingTrams$Straps", name := "isFree", desc := "(III)Z" } : Jvm.MethodName)) ∈ lw_all := lw_g (lw_at lw_m6 234 rfl) rfl
theorem q1545 : (Jvm.Cond.code ({ cls := "WingTrams$Straps", name := "isFree", desc := "(III)Z" } : Jvm.MethodName) prog_10_method_3_code (5 : Nat) (Option.some Jvm.ClassFile.FieldType.boolean)) ∈ lw_all := lw_g (lw_at lw_m6 235 rfl) rfl
theorem q2290 : (Jvm.Cond.castable "WingTrams$Straps" "java/lang/Object") ∈ lw_tbl := lw_at lw_m10 20 rfl
theorem in_X12 : ∀ w ∈ wsX120, w ∈ lw_all := lw_in wsX120 [1517, 1519, 1521, 1523] (by decide +kernel) (by decide +kernel)
/-! WingTrams$Reader -/
set_option maxRecDepth 100000
def RX4 : String := "WingTrams$Reader"
def TX4 : u_T := fun k => match k with
  | 0 => ("WingTrams$Reader", "size", "I", true)
  | 1 => ("WingTrams$Reader", "made", "LWingTrams$City;", true)
  | 2 => ("WingTrams$Reader", "at", "I", false)
  | 3 => ("WingTrams$Reader", "token", "I", false)
  | 4 => ("WingTrams$Reader", "begins", "I", false)
  | 5 => ("WingTrams$Reader", "ends", "I", false)
  | 6 => ("WingTrams$Reader", "number", "I", false)
  | 7 => ("WingTrams$Reader", "isDawn", "Z", false)
  | _ => ("WingTrams$Reader", "this$0", "LWingTrams;", true)
def tyX4 : Nat → FieldType := fun k => match k with
  | 0 => .int
  | 1 => .object "WingTrams$City"
  | 2 => .int
  | 3 => .int
  | 4 => .int
  | 5 => .int
  | 6 => .int
  | 7 => .boolean
  | _ => .object "WingTrams"
abbrev wsX40 : List Cond := u_ws RX4 TX4 9
theorem nmX4 : ∀ a, a < 9 → ∀ b, b < 9 → a ≠ b → (TX4 a).2.1 ≠ (TX4 b).2.1 := by decide +kernel
theorem tyX4_ok : ∀ k, k < 9 → parseFieldDescriptor (TX4 k).2.2.1 = some (tyX4 k) := by decide +kernel
abbrev cX4_init : ByteArray := prog_9_method_1_code
def yX4_init : MethodName := ⟨RX4, "<init>", "(LWingTrams;I)V"⟩
def dkwX4_init_1 : List UInt8 := [181, 0, 22, 177]
abbrev dktX4_init_1 : List UInt8 := dkwX4_init_1 ++ []
def dkwX4_init_0 : List UInt8 := [42, 43, 181, 0, 3, 42, 183, 0, 9, 42, 187, 0, 15, 89, 183, 0, 17, 181, 0, 18, 42, 28]
abbrev dktX4_init_0 : List UInt8 := dkwX4_init_0 ++ dktX4_init_1
theorem dksX4_init_0 : cX4_init.data.toList.drop 0 = dktX4_init_0 := by decide +kernel
theorem dksX4_init_1 : cX4_init.data.toList.drop 22 = dktX4_init_1 := dk_seg dksX4_init_0 22 rfl rfl
theorem dX4_init_0 : decode cX4_init 0 = .ok (.aload_n 0, 1) := dk_42 (dk_at dksX4_init_0 0 rfl rfl)
theorem dX4_init_1 : decode cX4_init 1 = .ok (.aload_n 1, 1) := dk_43 (dk_at dksX4_init_0 1 rfl rfl)
theorem dX4_init_2 : decode cX4_init 2 = .ok (.putfield 3, 3) := dk_181 0 3 (dk_at dksX4_init_0 2 rfl rfl)
theorem dX4_init_5 : decode cX4_init 5 = .ok (.aload_n 0, 1) := dk_42 (dk_at dksX4_init_0 5 rfl rfl)
theorem dX4_init_6 : decode cX4_init 6 = .ok (.invokespecial 9, 3) := dk_183 0 9 (dk_at dksX4_init_0 6 rfl rfl)
theorem dX4_init_9 : decode cX4_init 9 = .ok (.aload_n 0, 1) := dk_42 (dk_at dksX4_init_0 9 rfl rfl)
theorem dX4_init_10 : decode cX4_init 10 = .ok (.new 15, 3) := dk_187 0 15 (dk_at dksX4_init_0 10 rfl rfl)
theorem dX4_init_13 : decode cX4_init 13 = .ok (.dup, 1) := dk_89 (dk_at dksX4_init_0 13 rfl rfl)
theorem dX4_init_14 : decode cX4_init 14 = .ok (.invokespecial 17, 3) := dk_183 0 17 (dk_at dksX4_init_0 14 rfl rfl)
theorem dX4_init_17 : decode cX4_init 17 = .ok (.putfield 18, 3) := dk_181 0 18 (dk_at dksX4_init_0 17 rfl rfl)
theorem dX4_init_20 : decode cX4_init 20 = .ok (.aload_n 0, 1) := dk_42 (dk_at dksX4_init_0 20 rfl rfl)
theorem dX4_init_21 : decode cX4_init 21 = .ok (.iload_n 2, 1) := dk_28 (dk_at dksX4_init_0 21 rfl rfl)
theorem dX4_init_22 : decode cX4_init 22 = .ok (.putfield 22, 3) := dk_181 0 22 (dk_at dksX4_init_1 0 rfl rfl)
theorem dX4_init_25 : decode cX4_init 25 = .ok (.return_, 1) := dk_177 (dk_at dksX4_init_1 3 rfl rfl)
abbrev cX4_read : ByteArray := prog_9_method_26_code
def yX4_read : MethodName := ⟨RX4, "read", "()LWingTrams$City;"⟩
def dkwX4_read_0 : List UInt8 := [42, 182, 0, 86, 42, 180, 0, 44, 153, 0, 10, 42, 182, 1, 0, 167, 255, 245, 42, 180, 0, 18, 176]
abbrev dktX4_read_0 : List UInt8 := dkwX4_read_0 ++ []
theorem dksX4_read_0 : cX4_read.data.toList.drop 0 = dktX4_read_0 := by decide +kernel
theorem dX4_read_0 : decode cX4_read 0 = .ok (.aload_n 0, 1) := dk_42 (dk_at dksX4_read_0 0 rfl rfl)
theorem dX4_read_1 : decode cX4_read 1 = .ok (.invokevirtual 86, 3) := dk_182 0 86 (dk_at dksX4_read_0 1 rfl rfl)
theorem dX4_read_4 : decode cX4_read 4 = .ok (.aload_n 0, 1) := dk_42 (dk_at dksX4_read_0 4 rfl rfl)
theorem dX4_read_5 : decode cX4_read 5 = .ok (.getfield 44, 3) := dk_180 0 44 (dk_at dksX4_read_0 5 rfl rfl)
theorem dX4_read_8 : decode cX4_read 8 = .ok (.ifCond .eq 10, 3) := dk_153 0 10 (dk_at dksX4_read_0 8 rfl rfl)
theorem dX4_read_11 : decode cX4_read 11 = .ok (.aload_n 0, 1) := dk_42 (dk_at dksX4_read_0 11 rfl rfl)
theorem dX4_read_12 : decode cX4_read 12 = .ok (.invokevirtual 256, 3) := dk_182 1 0 (dk_at dksX4_read_0 12 rfl rfl)
theorem dX4_read_15 : decode cX4_read 15 = .ok (.goto (-11), 3) := dk_167 255 245 (dk_at dksX4_read_0 15 rfl rfl)
theorem dX4_read_18 : decode cX4_read 18 = .ok (.aload_n 0, 1) := dk_42 (dk_at dksX4_read_0 18 rfl rfl)
theorem dX4_read_19 : decode cX4_read 19 = .ok (.getfield 18, 3) := dk_180 0 18 (dk_at dksX4_read_0 19 rfl rfl)
theorem dX4_read_22 : decode cX4_read 22 = .ok (.areturn, 1) := dk_176 (dk_at dksX4_read_0 22 rfl rfl)
abbrev cX4_next : ByteArray := prog_9_method_5_code
def yX4_next : MethodName := ⟨RX4, "next", "()V"⟩
def dkwX4_next_8 : List UInt8 := [180, 0, 26, 181, 0, 72, 177]
abbrev dktX4_next_8 : List UInt8 := dkwX4_next_8 ++ []
def dkwX4_next_7 : List UInt8 := [155, 0, 7, 6, 167, 0, 4, 7, 181, 0, 44, 42, 89, 180, 0, 26, 4, 96, 181, 0, 26, 42, 42]
abbrev dktX4_next_7 : List UInt8 := dkwX4_next_7 ++ dktX4_next_8
def dkwX4_next_6 : List UInt8 := [181, 0, 26, 167, 255, 215, 42, 5, 181, 0, 44, 167, 0, 34, 42, 18, 64, 42, 182, 0, 33, 182, 0, 66]
abbrev dktX4_next_6 : List UInt8 := dkwX4_next_6 ++ dktX4_next_7
def dkwX4_next_5 : List UInt8 := [104, 42, 182, 0, 33, 96, 16, 48, 100, 184, 0, 58, 181, 0, 54, 42, 89, 180, 0, 26, 4, 96]
abbrev dktX4_next_5 : List UInt8 := dkwX4_next_5 ++ dktX4_next_6
def dkwX4_next_4 : List UInt8 := [153, 0, 60, 42, 3, 181, 0, 54, 42, 182, 0, 51, 153, 0, 40, 42, 18, 57, 16, 10, 42, 180, 0, 54]
abbrev dktX4_next_4 : List UInt8 := dkwX4_next_4 ++ dktX4_next_5
def dkwX4_next_3 : List UInt8 := [180, 0, 26, 4, 96, 181, 0, 26, 167, 255, 239, 42, 4, 181, 0, 44, 167, 0, 98, 42, 182, 0, 51]
abbrev dktX4_next_3 : List UInt8 := dkwX4_next_3 ++ dktX4_next_4
def dkwX4_next_2 : List UInt8 := [3, 181, 0, 44, 167, 0, 133, 42, 182, 0, 47, 153, 0, 31, 42, 182, 0, 47, 153, 0, 16, 42, 89]
abbrev dktX4_next_2 : List UInt8 := dkwX4_next_2 ++ dktX4_next_3
def dkwX4_next_1 : List UInt8 := [96, 181, 0, 26, 167, 255, 228, 42, 42, 180, 0, 26, 181, 0, 41, 42, 182, 0, 33, 2, 160, 0, 11, 42]
abbrev dktX4_next_1 : List UInt8 := dkwX4_next_1 ++ dktX4_next_2
def dkwX4_next_0 : List UInt8 := [42, 182, 0, 33, 16, 32, 159, 0, 12, 42, 182, 0, 33, 16, 10, 160, 0, 16, 42, 89, 180, 0, 26, 4]
abbrev dktX4_next_0 : List UInt8 := dkwX4_next_0 ++ dktX4_next_1
theorem dksX4_next_0 : cX4_next.data.toList.drop 0 = dktX4_next_0 := by decide +kernel
theorem dksX4_next_1 : cX4_next.data.toList.drop 24 = dktX4_next_1 := dk_seg dksX4_next_0 24 rfl rfl
theorem dksX4_next_2 : cX4_next.data.toList.drop 48 = dktX4_next_2 := dk_seg dksX4_next_1 24 rfl rfl
theorem dksX4_next_3 : cX4_next.data.toList.drop 71 = dktX4_next_3 := dk_seg dksX4_next_2 23 rfl rfl
theorem dksX4_next_4 : cX4_next.data.toList.drop 94 = dktX4_next_4 := dk_seg dksX4_next_3 23 rfl rfl
theorem dksX4_next_5 : cX4_next.data.toList.drop 118 = dktX4_next_5 := dk_seg dksX4_next_4 24 rfl rfl
theorem dksX4_next_6 : cX4_next.data.toList.drop 140 = dktX4_next_6 := dk_seg dksX4_next_5 22 rfl rfl
theorem dksX4_next_7 : cX4_next.data.toList.drop 164 = dktX4_next_7 := dk_seg dksX4_next_6 24 rfl rfl
theorem dksX4_next_8 : cX4_next.data.toList.drop 187 = dktX4_next_8 := dk_seg dksX4_next_7 23 rfl rfl
theorem dX4_next_0 : decode cX4_next 0 = .ok (.aload_n 0, 1) := dk_42 (dk_at dksX4_next_0 0 rfl rfl)
theorem dX4_next_1 : decode cX4_next 1 = .ok (.invokevirtual 33, 3) := dk_182 0 33 (dk_at dksX4_next_0 1 rfl rfl)
theorem dX4_next_4 : decode cX4_next 4 = .ok (.bipush 32, 2) := dk_16 32 (dk_at dksX4_next_0 4 rfl rfl)
theorem dX4_next_6 : decode cX4_next 6 = .ok (.if_icmp .eq 12, 3) := dk_159 0 12 (dk_at dksX4_next_0 6 rfl rfl)
theorem dX4_next_9 : decode cX4_next 9 = .ok (.aload_n 0, 1) := dk_42 (dk_at dksX4_next_0 9 rfl rfl)
theorem dX4_next_10 : decode cX4_next 10 = .ok (.invokevirtual 33, 3) := dk_182 0 33 (dk_at dksX4_next_0 10 rfl rfl)
theorem dX4_next_13 : decode cX4_next 13 = .ok (.bipush 10, 2) := dk_16 10 (dk_at dksX4_next_0 13 rfl rfl)
theorem dX4_next_15 : decode cX4_next 15 = .ok (.if_icmp .ne 16, 3) := dk_160 0 16 (dk_at dksX4_next_0 15 rfl rfl)
theorem dX4_next_18 : decode cX4_next 18 = .ok (.aload_n 0, 1) := dk_42 (dk_at dksX4_next_0 18 rfl rfl)
theorem dX4_next_19 : decode cX4_next 19 = .ok (.dup, 1) := dk_89 (dk_at dksX4_next_0 19 rfl rfl)
theorem dX4_next_20 : decode cX4_next 20 = .ok (.getfield 26, 3) := dk_180 0 26 (dk_at dksX4_next_0 20 rfl rfl)
theorem dX4_next_23 : decode cX4_next 23 = .ok (.iconst 1, 1) := dk_4 (dk_at dksX4_next_0 23 rfl rfl)
theorem dX4_next_24 : decode cX4_next 24 = .ok (.iadd, 1) := dk_96 (dk_at dksX4_next_1 0 rfl rfl)
theorem dX4_next_25 : decode cX4_next 25 = .ok (.putfield 26, 3) := dk_181 0 26 (dk_at dksX4_next_1 1 rfl rfl)
theorem dX4_next_28 : decode cX4_next 28 = .ok (.goto (-28), 3) := dk_167 255 228 (dk_at dksX4_next_1 4 rfl rfl)
theorem dX4_next_31 : decode cX4_next 31 = .ok (.aload_n 0, 1) := dk_42 (dk_at dksX4_next_1 7 rfl rfl)
theorem dX4_next_32 : decode cX4_next 32 = .ok (.aload_n 0, 1) := dk_42 (dk_at dksX4_next_1 8 rfl rfl)
theorem dX4_next_33 : decode cX4_next 33 = .ok (.getfield 26, 3) := dk_180 0 26 (dk_at dksX4_next_1 9 rfl rfl)
theorem dX4_next_36 : decode cX4_next 36 = .ok (.putfield 41, 3) := dk_181 0 41 (dk_at dksX4_next_1 12 rfl rfl)
theorem dX4_next_39 : decode cX4_next 39 = .ok (.aload_n 0, 1) := dk_42 (dk_at dksX4_next_1 15 rfl rfl)
theorem dX4_next_40 : decode cX4_next 40 = .ok (.invokevirtual 33, 3) := dk_182 0 33 (dk_at dksX4_next_1 16 rfl rfl)
theorem dX4_next_43 : decode cX4_next 43 = .ok (.iconst (-1), 1) := dk_2 (dk_at dksX4_next_1 19 rfl rfl)
theorem dX4_next_44 : decode cX4_next 44 = .ok (.if_icmp .ne 11, 3) := dk_160 0 11 (dk_at dksX4_next_1 20 rfl rfl)
theorem dX4_next_47 : decode cX4_next 47 = .ok (.aload_n 0, 1) := dk_42 (dk_at dksX4_next_1 23 rfl rfl)
theorem dX4_next_48 : decode cX4_next 48 = .ok (.iconst 0, 1) := dk_3 (dk_at dksX4_next_2 0 rfl rfl)
theorem dX4_next_49 : decode cX4_next 49 = .ok (.putfield 44, 3) := dk_181 0 44 (dk_at dksX4_next_2 1 rfl rfl)
theorem dX4_next_52 : decode cX4_next 52 = .ok (.goto 133, 3) := dk_167 0 133 (dk_at dksX4_next_2 4 rfl rfl)
theorem dX4_next_55 : decode cX4_next 55 = .ok (.aload_n 0, 1) := dk_42 (dk_at dksX4_next_2 7 rfl rfl)
theorem dX4_next_56 : decode cX4_next 56 = .ok (.invokevirtual 47, 3) := dk_182 0 47 (dk_at dksX4_next_2 8 rfl rfl)
theorem dX4_next_59 : decode cX4_next 59 = .ok (.ifCond .eq 31, 3) := dk_153 0 31 (dk_at dksX4_next_2 11 rfl rfl)
theorem dX4_next_62 : decode cX4_next 62 = .ok (.aload_n 0, 1) := dk_42 (dk_at dksX4_next_2 14 rfl rfl)
theorem dX4_next_63 : decode cX4_next 63 = .ok (.invokevirtual 47, 3) := dk_182 0 47 (dk_at dksX4_next_2 15 rfl rfl)
theorem dX4_next_66 : decode cX4_next 66 = .ok (.ifCond .eq 16, 3) := dk_153 0 16 (dk_at dksX4_next_2 18 rfl rfl)
theorem dX4_next_69 : decode cX4_next 69 = .ok (.aload_n 0, 1) := dk_42 (dk_at dksX4_next_2 21 rfl rfl)
theorem dX4_next_70 : decode cX4_next 70 = .ok (.dup, 1) := dk_89 (dk_at dksX4_next_2 22 rfl rfl)
theorem dX4_next_71 : decode cX4_next 71 = .ok (.getfield 26, 3) := dk_180 0 26 (dk_at dksX4_next_3 0 rfl rfl)
theorem dX4_next_74 : decode cX4_next 74 = .ok (.iconst 1, 1) := dk_4 (dk_at dksX4_next_3 3 rfl rfl)
theorem dX4_next_75 : decode cX4_next 75 = .ok (.iadd, 1) := dk_96 (dk_at dksX4_next_3 4 rfl rfl)
theorem dX4_next_76 : decode cX4_next 76 = .ok (.putfield 26, 3) := dk_181 0 26 (dk_at dksX4_next_3 5 rfl rfl)
theorem dX4_next_79 : decode cX4_next 79 = .ok (.goto (-17), 3) := dk_167 255 239 (dk_at dksX4_next_3 8 rfl rfl)
theorem dX4_next_82 : decode cX4_next 82 = .ok (.aload_n 0, 1) := dk_42 (dk_at dksX4_next_3 11 rfl rfl)
theorem dX4_next_83 : decode cX4_next 83 = .ok (.iconst 1, 1) := dk_4 (dk_at dksX4_next_3 12 rfl rfl)
theorem dX4_next_84 : decode cX4_next 84 = .ok (.putfield 44, 3) := dk_181 0 44 (dk_at dksX4_next_3 13 rfl rfl)
theorem dX4_next_87 : decode cX4_next 87 = .ok (.goto 98, 3) := dk_167 0 98 (dk_at dksX4_next_3 16 rfl rfl)
theorem dX4_next_90 : decode cX4_next 90 = .ok (.aload_n 0, 1) := dk_42 (dk_at dksX4_next_3 19 rfl rfl)
theorem dX4_next_91 : decode cX4_next 91 = .ok (.invokevirtual 51, 3) := dk_182 0 51 (dk_at dksX4_next_3 20 rfl rfl)
theorem dX4_next_94 : decode cX4_next 94 = .ok (.ifCond .eq 60, 3) := dk_153 0 60 (dk_at dksX4_next_4 0 rfl rfl)
theorem dX4_next_97 : decode cX4_next 97 = .ok (.aload_n 0, 1) := dk_42 (dk_at dksX4_next_4 3 rfl rfl)
theorem dX4_next_98 : decode cX4_next 98 = .ok (.iconst 0, 1) := dk_3 (dk_at dksX4_next_4 4 rfl rfl)
theorem dX4_next_99 : decode cX4_next 99 = .ok (.putfield 54, 3) := dk_181 0 54 (dk_at dksX4_next_4 5 rfl rfl)
theorem dX4_next_102 : decode cX4_next 102 = .ok (.aload_n 0, 1) := dk_42 (dk_at dksX4_next_4 8 rfl rfl)
theorem dX4_next_103 : decode cX4_next 103 = .ok (.invokevirtual 51, 3) := dk_182 0 51 (dk_at dksX4_next_4 9 rfl rfl)
theorem dX4_next_106 : decode cX4_next 106 = .ok (.ifCond .eq 40, 3) := dk_153 0 40 (dk_at dksX4_next_4 12 rfl rfl)
theorem dX4_next_109 : decode cX4_next 109 = .ok (.aload_n 0, 1) := dk_42 (dk_at dksX4_next_4 15 rfl rfl)
theorem dX4_next_110 : decode cX4_next 110 = .ok (.ldc 57, 2) := dk_18 57 (dk_at dksX4_next_4 16 rfl rfl)
theorem dX4_next_112 : decode cX4_next 112 = .ok (.bipush 10, 2) := dk_16 10 (dk_at dksX4_next_4 18 rfl rfl)
theorem dX4_next_114 : decode cX4_next 114 = .ok (.aload_n 0, 1) := dk_42 (dk_at dksX4_next_4 20 rfl rfl)
theorem dX4_next_115 : decode cX4_next 115 = .ok (.getfield 54, 3) := dk_180 0 54 (dk_at dksX4_next_4 21 rfl rfl)
theorem dX4_next_118 : decode cX4_next 118 = .ok (.imul, 1) := dk_104 (dk_at dksX4_next_5 0 rfl rfl)
theorem dX4_next_119 : decode cX4_next 119 = .ok (.aload_n 0, 1) := dk_42 (dk_at dksX4_next_5 1 rfl rfl)
theorem dX4_next_120 : decode cX4_next 120 = .ok (.invokevirtual 33, 3) := dk_182 0 33 (dk_at dksX4_next_5 2 rfl rfl)
theorem dX4_next_123 : decode cX4_next 123 = .ok (.iadd, 1) := dk_96 (dk_at dksX4_next_5 5 rfl rfl)
theorem dX4_next_124 : decode cX4_next 124 = .ok (.bipush 48, 2) := dk_16 48 (dk_at dksX4_next_5 6 rfl rfl)
theorem dX4_next_126 : decode cX4_next 126 = .ok (.isub, 1) := dk_100 (dk_at dksX4_next_5 8 rfl rfl)
theorem dX4_next_127 : decode cX4_next 127 = .ok (.invokestatic 58, 3) := dk_184 0 58 (dk_at dksX4_next_5 9 rfl rfl)
theorem dX4_next_130 : decode cX4_next 130 = .ok (.putfield 54, 3) := dk_181 0 54 (dk_at dksX4_next_5 12 rfl rfl)
theorem dX4_next_133 : decode cX4_next 133 = .ok (.aload_n 0, 1) := dk_42 (dk_at dksX4_next_5 15 rfl rfl)
theorem dX4_next_134 : decode cX4_next 134 = .ok (.dup, 1) := dk_89 (dk_at dksX4_next_5 16 rfl rfl)
theorem dX4_next_135 : decode cX4_next 135 = .ok (.getfield 26, 3) := dk_180 0 26 (dk_at dksX4_next_5 17 rfl rfl)
theorem dX4_next_138 : decode cX4_next 138 = .ok (.iconst 1, 1) := dk_4 (dk_at dksX4_next_5 20 rfl rfl)
theorem dX4_next_139 : decode cX4_next 139 = .ok (.iadd, 1) := dk_96 (dk_at dksX4_next_5 21 rfl rfl)
theorem dX4_next_140 : decode cX4_next 140 = .ok (.putfield 26, 3) := dk_181 0 26 (dk_at dksX4_next_6 0 rfl rfl)
theorem dX4_next_143 : decode cX4_next 143 = .ok (.goto (-41), 3) := dk_167 255 215 (dk_at dksX4_next_6 3 rfl rfl)
theorem dX4_next_146 : decode cX4_next 146 = .ok (.aload_n 0, 1) := dk_42 (dk_at dksX4_next_6 6 rfl rfl)
theorem dX4_next_147 : decode cX4_next 147 = .ok (.iconst 2, 1) := dk_5 (dk_at dksX4_next_6 7 rfl rfl)
theorem dX4_next_148 : decode cX4_next 148 = .ok (.putfield 44, 3) := dk_181 0 44 (dk_at dksX4_next_6 8 rfl rfl)
theorem dX4_next_151 : decode cX4_next 151 = .ok (.goto 34, 3) := dk_167 0 34 (dk_at dksX4_next_6 11 rfl rfl)
theorem dX4_next_154 : decode cX4_next 154 = .ok (.aload_n 0, 1) := dk_42 (dk_at dksX4_next_6 14 rfl rfl)
theorem dX4_next_155 : decode cX4_next 155 = .ok (.ldc 64, 2) := dk_18 64 (dk_at dksX4_next_6 15 rfl rfl)
theorem dX4_next_157 : decode cX4_next 157 = .ok (.aload_n 0, 1) := dk_42 (dk_at dksX4_next_6 17 rfl rfl)
theorem dX4_next_158 : decode cX4_next 158 = .ok (.invokevirtual 33, 3) := dk_182 0 33 (dk_at dksX4_next_6 18 rfl rfl)
theorem dX4_next_161 : decode cX4_next 161 = .ok (.invokevirtual 66, 3) := dk_182 0 66 (dk_at dksX4_next_6 21 rfl rfl)
theorem dX4_next_164 : decode cX4_next 164 = .ok (.ifCond .lt 7, 3) := dk_155 0 7 (dk_at dksX4_next_7 0 rfl rfl)
theorem dX4_next_167 : decode cX4_next 167 = .ok (.iconst 3, 1) := dk_6 (dk_at dksX4_next_7 3 rfl rfl)
theorem dX4_next_168 : decode cX4_next 168 = .ok (.goto 4, 3) := dk_167 0 4 (dk_at dksX4_next_7 4 rfl rfl)
theorem dX4_next_171 : decode cX4_next 171 = .ok (.iconst 4, 1) := dk_7 (dk_at dksX4_next_7 7 rfl rfl)
theorem dX4_next_172 : decode cX4_next 172 = .ok (.putfield 44, 3) := dk_181 0 44 (dk_at dksX4_next_7 8 rfl rfl)
theorem dX4_next_175 : decode cX4_next 175 = .ok (.aload_n 0, 1) := dk_42 (dk_at dksX4_next_7 11 rfl rfl)
theorem dX4_next_176 : decode cX4_next 176 = .ok (.dup, 1) := dk_89 (dk_at dksX4_next_7 12 rfl rfl)
theorem dX4_next_177 : decode cX4_next 177 = .ok (.getfield 26, 3) := dk_180 0 26 (dk_at dksX4_next_7 13 rfl rfl)
theorem dX4_next_180 : decode cX4_next 180 = .ok (.iconst 1, 1) := dk_4 (dk_at dksX4_next_7 16 rfl rfl)
theorem dX4_next_181 : decode cX4_next 181 = .ok (.iadd, 1) := dk_96 (dk_at dksX4_next_7 17 rfl rfl)
theorem dX4_next_182 : decode cX4_next 182 = .ok (.putfield 26, 3) := dk_181 0 26 (dk_at dksX4_next_7 18 rfl rfl)
theorem dX4_next_185 : decode cX4_next 185 = .ok (.aload_n 0, 1) := dk_42 (dk_at dksX4_next_7 21 rfl rfl)
theorem dX4_next_186 : decode cX4_next 186 = .ok (.aload_n 0, 1) := dk_42 (dk_at dksX4_next_7 22 rfl rfl)
theorem dX4_next_187 : decode cX4_next 187 = .ok (.getfield 26, 3) := dk_180 0 26 (dk_at dksX4_next_8 0 rfl rfl)
theorem dX4_next_190 : decode cX4_next 190 = .ok (.putfield 72, 3) := dk_181 0 72 (dk_at dksX4_next_8 3 rfl rfl)
theorem dX4_next_193 : decode cX4_next 193 = .ok (.return_, 1) := dk_177 (dk_at dksX4_next_8 6 rfl rfl)
abbrev cX4_here : ByteArray := prog_9_method_2_code
def yX4_here : MethodName := ⟨RX4, "here", "()I"⟩
def dkwX4_here_1 : List UInt8 := [17, 0, 255, 126, 167, 0, 4, 2, 172]
abbrev dktX4_here_1 : List UInt8 := dkwX4_here_1 ++ []
def dkwX4_here_0 : List UInt8 := [42, 180, 0, 26, 42, 180, 0, 22, 162, 0, 22, 42, 180, 0, 3, 180, 0, 29, 42, 180, 0, 26, 51]
abbrev dktX4_here_0 : List UInt8 := dkwX4_here_0 ++ dktX4_here_1
theorem dksX4_here_0 : cX4_here.data.toList.drop 0 = dktX4_here_0 := by decide +kernel
theorem dksX4_here_1 : cX4_here.data.toList.drop 23 = dktX4_here_1 := dk_seg dksX4_here_0 23 rfl rfl
theorem dX4_here_0 : decode cX4_here 0 = .ok (.aload_n 0, 1) := dk_42 (dk_at dksX4_here_0 0 rfl rfl)
theorem dX4_here_1 : decode cX4_here 1 = .ok (.getfield 26, 3) := dk_180 0 26 (dk_at dksX4_here_0 1 rfl rfl)
theorem dX4_here_4 : decode cX4_here 4 = .ok (.aload_n 0, 1) := dk_42 (dk_at dksX4_here_0 4 rfl rfl)
theorem dX4_here_5 : decode cX4_here 5 = .ok (.getfield 22, 3) := dk_180 0 22 (dk_at dksX4_here_0 5 rfl rfl)
theorem dX4_here_8 : decode cX4_here 8 = .ok (.if_icmp .ge 22, 3) := dk_162 0 22 (dk_at dksX4_here_0 8 rfl rfl)
theorem dX4_here_11 : decode cX4_here 11 = .ok (.aload_n 0, 1) := dk_42 (dk_at dksX4_here_0 11 rfl rfl)
theorem dX4_here_12 : decode cX4_here 12 = .ok (.getfield 3, 3) := dk_180 0 3 (dk_at dksX4_here_0 12 rfl rfl)
theorem dX4_here_15 : decode cX4_here 15 = .ok (.getfield 29, 3) := dk_180 0 29 (dk_at dksX4_here_0 15 rfl rfl)
theorem dX4_here_18 : decode cX4_here 18 = .ok (.aload_n 0, 1) := dk_42 (dk_at dksX4_here_0 18 rfl rfl)
theorem dX4_here_19 : decode cX4_here 19 = .ok (.getfield 26, 3) := dk_180 0 26 (dk_at dksX4_here_0 19 rfl rfl)
theorem dX4_here_22 : decode cX4_here 22 = .ok (.baload, 1) := dk_51 (dk_at dksX4_here_0 22 rfl rfl)
theorem dX4_here_23 : decode cX4_here 23 = .ok (.sipush 255, 3) := dk_17 0 255 (dk_at dksX4_here_1 0 rfl rfl)
theorem dX4_here_26 : decode cX4_here 26 = .ok (.iand, 1) := dk_126 (dk_at dksX4_here_1 3 rfl rfl)
theorem dX4_here_27 : decode cX4_here 27 = .ok (.goto 4, 3) := dk_167 0 4 (dk_at dksX4_here_1 4 rfl rfl)
theorem dX4_here_30 : decode cX4_here 30 = .ok (.iconst (-1), 1) := dk_2 (dk_at dksX4_here_1 7 rfl rfl)
theorem dX4_here_31 : decode cX4_here 31 = .ok (.ireturn, 1) := dk_172 (dk_at dksX4_here_1 8 rfl rfl)
abbrev cX4_isLetter : ByteArray := prog_9_method_3_code
def yX4_isLetter : MethodName := ⟨RX4, "isLetter", "()Z"⟩
def dkwX4_isLetter_0 : List UInt8 := [42, 182, 0, 33, 16, 97, 16, 122, 184, 0, 37, 172]
abbrev dktX4_isLetter_0 : List UInt8 := dkwX4_isLetter_0 ++ []
theorem dksX4_isLetter_0 : cX4_isLetter.data.toList.drop 0 = dktX4_isLetter_0 := by decide +kernel
theorem dX4_isLetter_0 : decode cX4_isLetter 0 = .ok (.aload_n 0, 1) := dk_42 (dk_at dksX4_isLetter_0 0 rfl rfl)
theorem dX4_isLetter_1 : decode cX4_isLetter 1 = .ok (.invokevirtual 33, 3) := dk_182 0 33 (dk_at dksX4_isLetter_0 1 rfl rfl)
theorem dX4_isLetter_4 : decode cX4_isLetter 4 = .ok (.bipush 97, 2) := dk_16 97 (dk_at dksX4_isLetter_0 4 rfl rfl)
theorem dX4_isLetter_6 : decode cX4_isLetter 6 = .ok (.bipush 122, 2) := dk_16 122 (dk_at dksX4_isLetter_0 6 rfl rfl)
theorem dX4_isLetter_8 : decode cX4_isLetter 8 = .ok (.invokestatic 37, 3) := dk_184 0 37 (dk_at dksX4_isLetter_0 8 rfl rfl)
theorem dX4_isLetter_11 : decode cX4_isLetter 11 = .ok (.ireturn, 1) := dk_172 (dk_at dksX4_isLetter_0 11 rfl rfl)
abbrev cX4_isDigit : ByteArray := prog_9_method_4_code
def yX4_isDigit : MethodName := ⟨RX4, "isDigit", "()Z"⟩
def dkwX4_isDigit_0 : List UInt8 := [42, 182, 0, 33, 16, 48, 16, 57, 184, 0, 37, 172]
abbrev dktX4_isDigit_0 : List UInt8 := dkwX4_isDigit_0 ++ []
theorem dksX4_isDigit_0 : cX4_isDigit.data.toList.drop 0 = dktX4_isDigit_0 := by decide +kernel
theorem dX4_isDigit_0 : decode cX4_isDigit 0 = .ok (.aload_n 0, 1) := dk_42 (dk_at dksX4_isDigit_0 0 rfl rfl)
theorem dX4_isDigit_1 : decode cX4_isDigit 1 = .ok (.invokevirtual 33, 3) := dk_182 0 33 (dk_at dksX4_isDigit_0 1 rfl rfl)
theorem dX4_isDigit_4 : decode cX4_isDigit 4 = .ok (.bipush 48, 2) := dk_16 48 (dk_at dksX4_isDigit_0 4 rfl rfl)
theorem dX4_isDigit_6 : decode cX4_isDigit 6 = .ok (.bipush 57, 2) := dk_16 57 (dk_at dksX4_isDigit_0 6 rfl rfl)
theorem dX4_isDigit_8 : decode cX4_isDigit 8 = .ok (.invokestatic 37, 3) := dk_184 0 37 (dk_at dksX4_isDigit_0 8 rfl rfl)
theorem dX4_isDigit_11 : decode cX4_isDigit 11 = .ok (.ireturn, 1) := dk_172 (dk_at dksX4_isDigit_0 11 rfl rfl)
abbrev cX4_line : ByteArray := prog_9_method_25_code
def yX4_line : MethodName := ⟨RX4, "line", "()V"⟩
def dkwX4_line_9 : List UInt8 := [185, 0, 217, 2, 0, 87, 42, 42, 16, 59, 182, 0, 112, 4, 182, 0, 94, 42, 182, 0, 86, 177]
abbrev dktX4_line_9 : List UInt8 := dkwX4_line_9 ++ []
def dkwX4_line_8 : List UInt8 := [3, 5, 182, 0, 94, 42, 182, 0, 86, 42, 180, 0, 18, 180, 0, 254, 42, 3, 182, 0, 116]
abbrev dktX4_line_8 : List UInt8 := dkwX4_line_8 ++ dktX4_line_9
def dkwX4_line_7 : List UInt8 := [182, 0, 94, 42, 42, 180, 0, 18, 180, 0, 254, 185, 0, 196, 1, 0, 7, 162, 0, 7, 4, 167, 0, 4]
abbrev dktX4_line_7 : List UInt8 := dkwX4_line_7 ++ dktX4_line_8
def dkwX4_line_6 : List UInt8 := [16, 60, 17, 2, 88, 182, 0, 109, 181, 0, 250, 167, 0, 62, 42, 42, 18, 252, 182, 0, 82, 4]
abbrev dktX4_line_6 : List UInt8 := dkwX4_line_6 ++ dktX4_line_7
def dkwX4_line_5 : List UInt8 := [4, 167, 0, 4, 3, 8, 182, 0, 94, 42, 4, 181, 0, 246, 42, 182, 0, 86, 42, 180, 0, 18, 42]
abbrev dktX4_line_5 : List UInt8 := dkwX4_line_5 ++ dktX4_line_6
def dkwX4_line_4 : List UInt8 := [42, 182, 0, 242, 167, 0, 116, 42, 18, 244, 182, 0, 82, 153, 0, 48, 42, 42, 180, 0, 246, 154, 0, 7]
abbrev dktX4_line_4 : List UInt8 := dkwX4_line_4 ++ dktX4_line_5
def dkwX4_line_3 : List UInt8 := [18, 236, 182, 0, 82, 153, 0, 10, 42, 182, 0, 238, 167, 0, 132, 42, 18, 240, 182, 0, 82, 153, 0, 10]
abbrev dktX4_line_3 : List UInt8 := dkwX4_line_3 ++ dktX4_line_4
def dkwX4_line_2 : List UInt8 := [27, 182, 0, 229, 167, 0, 164, 42, 18, 232, 182, 0, 82, 153, 0, 10, 42, 182, 0, 233, 167, 0, 148, 42]
abbrev dktX4_line_2 : List UInt8 := dkwX4_line_2 ++ dktX4_line_3
def dkwX4_line_1 : List UInt8 := [167, 0, 17, 42, 18, 227, 182, 0, 82, 153, 0, 7, 5, 167, 0, 4, 2, 60, 27, 2, 159, 0, 11, 42]
abbrev dktX4_line_1 : List UInt8 := dkwX4_line_1 ++ dktX4_line_2
def dkwX4_line_0 : List UInt8 := [42, 18, 223, 182, 0, 82, 153, 0, 7, 3, 167, 0, 30, 42, 18, 225, 182, 0, 82, 153, 0, 7, 4]
abbrev dktX4_line_0 : List UInt8 := dkwX4_line_0 ++ dktX4_line_1
theorem dksX4_line_0 : cX4_line.data.toList.drop 0 = dktX4_line_0 := by decide +kernel
theorem dksX4_line_1 : cX4_line.data.toList.drop 23 = dktX4_line_1 := dk_seg dksX4_line_0 23 rfl rfl
theorem dksX4_line_2 : cX4_line.data.toList.drop 47 = dktX4_line_2 := dk_seg dksX4_line_1 24 rfl rfl
theorem dksX4_line_3 : cX4_line.data.toList.drop 71 = dktX4_line_3 := dk_seg dksX4_line_2 24 rfl rfl
theorem dksX4_line_4 : cX4_line.data.toList.drop 95 = dktX4_line_4 := dk_seg dksX4_line_3 24 rfl rfl
theorem dksX4_line_5 : cX4_line.data.toList.drop 119 = dktX4_line_5 := dk_seg dksX4_line_4 24 rfl rfl
theorem dksX4_line_6 : cX4_line.data.toList.drop 142 = dktX4_line_6 := dk_seg dksX4_line_5 23 rfl rfl
theorem dksX4_line_7 : cX4_line.data.toList.drop 164 = dktX4_line_7 := dk_seg dksX4_line_6 22 rfl rfl
theorem dksX4_line_8 : cX4_line.data.toList.drop 188 = dktX4_line_8 := dk_seg dksX4_line_7 24 rfl rfl
theorem dksX4_line_9 : cX4_line.data.toList.drop 209 = dktX4_line_9 := dk_seg dksX4_line_8 21 rfl rfl
theorem dX4_line_0 : decode cX4_line 0 = .ok (.aload_n 0, 1) := dk_42 (dk_at dksX4_line_0 0 rfl rfl)
theorem dX4_line_1 : decode cX4_line 1 = .ok (.ldc 223, 2) := dk_18 223 (dk_at dksX4_line_0 1 rfl rfl)
theorem dX4_line_3 : decode cX4_line 3 = .ok (.invokevirtual 82, 3) := dk_182 0 82 (dk_at dksX4_line_0 3 rfl rfl)
theorem dX4_line_6 : decode cX4_line 6 = .ok (.ifCond .eq 7, 3) := dk_153 0 7 (dk_at dksX4_line_0 6 rfl rfl)
theorem dX4_line_9 : decode cX4_line 9 = .ok (.iconst 0, 1) := dk_3 (dk_at dksX4_line_0 9 rfl rfl)
theorem dX4_line_10 : decode cX4_line 10 = .ok (.goto 30, 3) := dk_167 0 30 (dk_at dksX4_line_0 10 rfl rfl)
theorem dX4_line_13 : decode cX4_line 13 = .ok (.aload_n 0, 1) := dk_42 (dk_at dksX4_line_0 13 rfl rfl)
theorem dX4_line_14 : decode cX4_line 14 = .ok (.ldc 225, 2) := dk_18 225 (dk_at dksX4_line_0 14 rfl rfl)
theorem dX4_line_16 : decode cX4_line 16 = .ok (.invokevirtual 82, 3) := dk_182 0 82 (dk_at dksX4_line_0 16 rfl rfl)
theorem dX4_line_19 : decode cX4_line 19 = .ok (.ifCond .eq 7, 3) := dk_153 0 7 (dk_at dksX4_line_0 19 rfl rfl)
theorem dX4_line_22 : decode cX4_line 22 = .ok (.iconst 1, 1) := dk_4 (dk_at dksX4_line_0 22 rfl rfl)
theorem dX4_line_23 : decode cX4_line 23 = .ok (.goto 17, 3) := dk_167 0 17 (dk_at dksX4_line_1 0 rfl rfl)
theorem dX4_line_26 : decode cX4_line 26 = .ok (.aload_n 0, 1) := dk_42 (dk_at dksX4_line_1 3 rfl rfl)
theorem dX4_line_27 : decode cX4_line 27 = .ok (.ldc 227, 2) := dk_18 227 (dk_at dksX4_line_1 4 rfl rfl)
theorem dX4_line_29 : decode cX4_line 29 = .ok (.invokevirtual 82, 3) := dk_182 0 82 (dk_at dksX4_line_1 6 rfl rfl)
theorem dX4_line_32 : decode cX4_line 32 = .ok (.ifCond .eq 7, 3) := dk_153 0 7 (dk_at dksX4_line_1 9 rfl rfl)
theorem dX4_line_35 : decode cX4_line 35 = .ok (.iconst 2, 1) := dk_5 (dk_at dksX4_line_1 12 rfl rfl)
theorem dX4_line_36 : decode cX4_line 36 = .ok (.goto 4, 3) := dk_167 0 4 (dk_at dksX4_line_1 13 rfl rfl)
theorem dX4_line_39 : decode cX4_line 39 = .ok (.iconst (-1), 1) := dk_2 (dk_at dksX4_line_1 16 rfl rfl)
theorem dX4_line_40 : decode cX4_line 40 = .ok (.istore_n 1, 1) := dk_60 (dk_at dksX4_line_1 17 rfl rfl)
theorem dX4_line_41 : decode cX4_line 41 = .ok (.iload_n 1, 1) := dk_27 (dk_at dksX4_line_1 18 rfl rfl)
theorem dX4_line_42 : decode cX4_line 42 = .ok (.iconst (-1), 1) := dk_2 (dk_at dksX4_line_1 19 rfl rfl)
theorem dX4_line_43 : decode cX4_line 43 = .ok (.if_icmp .eq 11, 3) := dk_159 0 11 (dk_at dksX4_line_1 20 rfl rfl)
theorem dX4_line_46 : decode cX4_line 46 = .ok (.aload_n 0, 1) := dk_42 (dk_at dksX4_line_1 23 rfl rfl)
theorem dX4_line_47 : decode cX4_line 47 = .ok (.iload_n 1, 1) := dk_27 (dk_at dksX4_line_2 0 rfl rfl)
theorem dX4_line_48 : decode cX4_line 48 = .ok (.invokevirtual 229, 3) := dk_182 0 229 (dk_at dksX4_line_2 1 rfl rfl)
theorem dX4_line_51 : decode cX4_line 51 = .ok (.goto 164, 3) := dk_167 0 164 (dk_at dksX4_line_2 4 rfl rfl)
theorem dX4_line_54 : decode cX4_line 54 = .ok (.aload_n 0, 1) := dk_42 (dk_at dksX4_line_2 7 rfl rfl)
theorem dX4_line_55 : decode cX4_line 55 = .ok (.ldc 232, 2) := dk_18 232 (dk_at dksX4_line_2 8 rfl rfl)
theorem dX4_line_57 : decode cX4_line 57 = .ok (.invokevirtual 82, 3) := dk_182 0 82 (dk_at dksX4_line_2 10 rfl rfl)
theorem dX4_line_60 : decode cX4_line 60 = .ok (.ifCond .eq 10, 3) := dk_153 0 10 (dk_at dksX4_line_2 13 rfl rfl)
theorem dX4_line_63 : decode cX4_line 63 = .ok (.aload_n 0, 1) := dk_42 (dk_at dksX4_line_2 16 rfl rfl)
theorem dX4_line_64 : decode cX4_line 64 = .ok (.invokevirtual 233, 3) := dk_182 0 233 (dk_at dksX4_line_2 17 rfl rfl)
theorem dX4_line_67 : decode cX4_line 67 = .ok (.goto 148, 3) := dk_167 0 148 (dk_at dksX4_line_2 20 rfl rfl)
theorem dX4_line_70 : decode cX4_line 70 = .ok (.aload_n 0, 1) := dk_42 (dk_at dksX4_line_2 23 rfl rfl)
theorem dX4_line_71 : decode cX4_line 71 = .ok (.ldc 236, 2) := dk_18 236 (dk_at dksX4_line_3 0 rfl rfl)
theorem dX4_line_73 : decode cX4_line 73 = .ok (.invokevirtual 82, 3) := dk_182 0 82 (dk_at dksX4_line_3 2 rfl rfl)
theorem dX4_line_76 : decode cX4_line 76 = .ok (.ifCond .eq 10, 3) := dk_153 0 10 (dk_at dksX4_line_3 5 rfl rfl)
theorem dX4_line_79 : decode cX4_line 79 = .ok (.aload_n 0, 1) := dk_42 (dk_at dksX4_line_3 8 rfl rfl)
theorem dX4_line_80 : decode cX4_line 80 = .ok (.invokevirtual 238, 3) := dk_182 0 238 (dk_at dksX4_line_3 9 rfl rfl)
theorem dX4_line_83 : decode cX4_line 83 = .ok (.goto 132, 3) := dk_167 0 132 (dk_at dksX4_line_3 12 rfl rfl)
theorem dX4_line_86 : decode cX4_line 86 = .ok (.aload_n 0, 1) := dk_42 (dk_at dksX4_line_3 15 rfl rfl)
theorem dX4_line_87 : decode cX4_line 87 = .ok (.ldc 240, 2) := dk_18 240 (dk_at dksX4_line_3 16 rfl rfl)
theorem dX4_line_89 : decode cX4_line 89 = .ok (.invokevirtual 82, 3) := dk_182 0 82 (dk_at dksX4_line_3 18 rfl rfl)
theorem dX4_line_92 : decode cX4_line 92 = .ok (.ifCond .eq 10, 3) := dk_153 0 10 (dk_at dksX4_line_3 21 rfl rfl)
theorem dX4_line_95 : decode cX4_line 95 = .ok (.aload_n 0, 1) := dk_42 (dk_at dksX4_line_4 0 rfl rfl)
theorem dX4_line_96 : decode cX4_line 96 = .ok (.invokevirtual 242, 3) := dk_182 0 242 (dk_at dksX4_line_4 1 rfl rfl)
theorem dX4_line_99 : decode cX4_line 99 = .ok (.goto 116, 3) := dk_167 0 116 (dk_at dksX4_line_4 4 rfl rfl)
theorem dX4_line_102 : decode cX4_line 102 = .ok (.aload_n 0, 1) := dk_42 (dk_at dksX4_line_4 7 rfl rfl)
theorem dX4_line_103 : decode cX4_line 103 = .ok (.ldc 244, 2) := dk_18 244 (dk_at dksX4_line_4 8 rfl rfl)
theorem dX4_line_105 : decode cX4_line 105 = .ok (.invokevirtual 82, 3) := dk_182 0 82 (dk_at dksX4_line_4 10 rfl rfl)
theorem dX4_line_108 : decode cX4_line 108 = .ok (.ifCond .eq 48, 3) := dk_153 0 48 (dk_at dksX4_line_4 13 rfl rfl)
theorem dX4_line_111 : decode cX4_line 111 = .ok (.aload_n 0, 1) := dk_42 (dk_at dksX4_line_4 16 rfl rfl)
theorem dX4_line_112 : decode cX4_line 112 = .ok (.aload_n 0, 1) := dk_42 (dk_at dksX4_line_4 17 rfl rfl)
theorem dX4_line_113 : decode cX4_line 113 = .ok (.getfield 246, 3) := dk_180 0 246 (dk_at dksX4_line_4 18 rfl rfl)
theorem dX4_line_116 : decode cX4_line 116 = .ok (.ifCond .ne 7, 3) := dk_154 0 7 (dk_at dksX4_line_4 21 rfl rfl)
theorem dX4_line_119 : decode cX4_line 119 = .ok (.iconst 1, 1) := dk_4 (dk_at dksX4_line_5 0 rfl rfl)
theorem dX4_line_120 : decode cX4_line 120 = .ok (.goto 4, 3) := dk_167 0 4 (dk_at dksX4_line_5 1 rfl rfl)
theorem dX4_line_123 : decode cX4_line 123 = .ok (.iconst 0, 1) := dk_3 (dk_at dksX4_line_5 4 rfl rfl)
theorem dX4_line_124 : decode cX4_line 124 = .ok (.iconst 5, 1) := dk_8 (dk_at dksX4_line_5 5 rfl rfl)
theorem dX4_line_125 : decode cX4_line 125 = .ok (.invokevirtual 94, 3) := dk_182 0 94 (dk_at dksX4_line_5 6 rfl rfl)
theorem dX4_line_128 : decode cX4_line 128 = .ok (.aload_n 0, 1) := dk_42 (dk_at dksX4_line_5 9 rfl rfl)
theorem dX4_line_129 : decode cX4_line 129 = .ok (.iconst 1, 1) := dk_4 (dk_at dksX4_line_5 10 rfl rfl)
theorem dX4_line_130 : decode cX4_line 130 = .ok (.putfield 246, 3) := dk_181 0 246 (dk_at dksX4_line_5 11 rfl rfl)
theorem dX4_line_133 : decode cX4_line 133 = .ok (.aload_n 0, 1) := dk_42 (dk_at dksX4_line_5 14 rfl rfl)
theorem dX4_line_134 : decode cX4_line 134 = .ok (.invokevirtual 86, 3) := dk_182 0 86 (dk_at dksX4_line_5 15 rfl rfl)
theorem dX4_line_137 : decode cX4_line 137 = .ok (.aload_n 0, 1) := dk_42 (dk_at dksX4_line_5 18 rfl rfl)
theorem dX4_line_138 : decode cX4_line 138 = .ok (.getfield 18, 3) := dk_180 0 18 (dk_at dksX4_line_5 19 rfl rfl)
theorem dX4_line_141 : decode cX4_line 141 = .ok (.aload_n 0, 1) := dk_42 (dk_at dksX4_line_5 22 rfl rfl)
theorem dX4_line_142 : decode cX4_line 142 = .ok (.bipush 60, 2) := dk_16 60 (dk_at dksX4_line_6 0 rfl rfl)
theorem dX4_line_144 : decode cX4_line 144 = .ok (.sipush 600, 3) := dk_17 2 88 (dk_at dksX4_line_6 2 rfl rfl)
theorem dX4_line_147 : decode cX4_line 147 = .ok (.invokevirtual 109, 3) := dk_182 0 109 (dk_at dksX4_line_6 5 rfl rfl)
theorem dX4_line_150 : decode cX4_line 150 = .ok (.putfield 250, 3) := dk_181 0 250 (dk_at dksX4_line_6 8 rfl rfl)
theorem dX4_line_153 : decode cX4_line 153 = .ok (.goto 62, 3) := dk_167 0 62 (dk_at dksX4_line_6 11 rfl rfl)
theorem dX4_line_156 : decode cX4_line 156 = .ok (.aload_n 0, 1) := dk_42 (dk_at dksX4_line_6 14 rfl rfl)
theorem dX4_line_157 : decode cX4_line 157 = .ok (.aload_n 0, 1) := dk_42 (dk_at dksX4_line_6 15 rfl rfl)
theorem dX4_line_158 : decode cX4_line 158 = .ok (.ldc 252, 2) := dk_18 252 (dk_at dksX4_line_6 16 rfl rfl)
theorem dX4_line_160 : decode cX4_line 160 = .ok (.invokevirtual 82, 3) := dk_182 0 82 (dk_at dksX4_line_6 18 rfl rfl)
theorem dX4_line_163 : decode cX4_line 163 = .ok (.iconst 1, 1) := dk_4 (dk_at dksX4_line_6 21 rfl rfl)
theorem dX4_line_164 : decode cX4_line 164 = .ok (.invokevirtual 94, 3) := dk_182 0 94 (dk_at dksX4_line_7 0 rfl rfl)
theorem dX4_line_167 : decode cX4_line 167 = .ok (.aload_n 0, 1) := dk_42 (dk_at dksX4_line_7 3 rfl rfl)
theorem dX4_line_168 : decode cX4_line 168 = .ok (.aload_n 0, 1) := dk_42 (dk_at dksX4_line_7 4 rfl rfl)
theorem dX4_line_169 : decode cX4_line 169 = .ok (.getfield 18, 3) := dk_180 0 18 (dk_at dksX4_line_7 5 rfl rfl)
theorem dX4_line_172 : decode cX4_line 172 = .ok (.getfield 254, 3) := dk_180 0 254 (dk_at dksX4_line_7 8 rfl rfl)
theorem dX4_line_175 : decode cX4_line 175 = .ok (.invokeinterface 196 1, 5) := by decide +kernel
theorem dX4_line_180 : decode cX4_line 180 = .ok (.iconst 4, 1) := dk_7 (dk_at dksX4_line_7 16 rfl rfl)
theorem dX4_line_181 : decode cX4_line 181 = .ok (.if_icmp .ge 7, 3) := dk_162 0 7 (dk_at dksX4_line_7 17 rfl rfl)
theorem dX4_line_184 : decode cX4_line 184 = .ok (.iconst 1, 1) := dk_4 (dk_at dksX4_line_7 20 rfl rfl)
theorem dX4_line_185 : decode cX4_line 185 = .ok (.goto 4, 3) := dk_167 0 4 (dk_at dksX4_line_7 21 rfl rfl)
theorem dX4_line_188 : decode cX4_line 188 = .ok (.iconst 0, 1) := dk_3 (dk_at dksX4_line_8 0 rfl rfl)
theorem dX4_line_189 : decode cX4_line 189 = .ok (.iconst 2, 1) := dk_5 (dk_at dksX4_line_8 1 rfl rfl)
theorem dX4_line_190 : decode cX4_line 190 = .ok (.invokevirtual 94, 3) := dk_182 0 94 (dk_at dksX4_line_8 2 rfl rfl)
theorem dX4_line_193 : decode cX4_line 193 = .ok (.aload_n 0, 1) := dk_42 (dk_at dksX4_line_8 5 rfl rfl)
theorem dX4_line_194 : decode cX4_line 194 = .ok (.invokevirtual 86, 3) := dk_182 0 86 (dk_at dksX4_line_8 6 rfl rfl)
theorem dX4_line_197 : decode cX4_line 197 = .ok (.aload_n 0, 1) := dk_42 (dk_at dksX4_line_8 9 rfl rfl)
theorem dX4_line_198 : decode cX4_line 198 = .ok (.getfield 18, 3) := dk_180 0 18 (dk_at dksX4_line_8 10 rfl rfl)
theorem dX4_line_201 : decode cX4_line 201 = .ok (.getfield 254, 3) := dk_180 0 254 (dk_at dksX4_line_8 13 rfl rfl)
theorem dX4_line_204 : decode cX4_line 204 = .ok (.aload_n 0, 1) := dk_42 (dk_at dksX4_line_8 16 rfl rfl)
theorem dX4_line_205 : decode cX4_line 205 = .ok (.iconst 0, 1) := dk_3 (dk_at dksX4_line_8 17 rfl rfl)
theorem dX4_line_206 : decode cX4_line 206 = .ok (.invokevirtual 116, 3) := dk_182 0 116 (dk_at dksX4_line_8 18 rfl rfl)
theorem dX4_line_209 : decode cX4_line 209 = .ok (.invokeinterface 217 2, 5) := by decide +kernel
theorem dX4_line_214 : decode cX4_line 214 = .ok (.pop, 1) := dk_87 (dk_at dksX4_line_9 5 rfl rfl)
theorem dX4_line_215 : decode cX4_line 215 = .ok (.aload_n 0, 1) := dk_42 (dk_at dksX4_line_9 6 rfl rfl)
theorem dX4_line_216 : decode cX4_line 216 = .ok (.aload_n 0, 1) := dk_42 (dk_at dksX4_line_9 7 rfl rfl)
theorem dX4_line_217 : decode cX4_line 217 = .ok (.bipush 59, 2) := dk_16 59 (dk_at dksX4_line_9 8 rfl rfl)
theorem dX4_line_219 : decode cX4_line 219 = .ok (.invokevirtual 112, 3) := dk_182 0 112 (dk_at dksX4_line_9 10 rfl rfl)
theorem dX4_line_222 : decode cX4_line 222 = .ok (.iconst 1, 1) := dk_4 (dk_at dksX4_line_9 13 rfl rfl)
theorem dX4_line_223 : decode cX4_line 223 = .ok (.invokevirtual 94, 3) := dk_182 0 94 (dk_at dksX4_line_9 14 rfl rfl)
theorem dX4_line_226 : decode cX4_line 226 = .ok (.aload_n 0, 1) := dk_42 (dk_at dksX4_line_9 17 rfl rfl)
theorem dX4_line_227 : decode cX4_line 227 = .ok (.invokevirtual 86, 3) := dk_182 0 86 (dk_at dksX4_line_9 18 rfl rfl)
theorem dX4_line_230 : decode cX4_line 230 = .ok (.return_, 1) := dk_177 (dk_at dksX4_line_9 21 rfl rfl)
abbrev cX4_is : ByteArray := prog_9_method_6_code
def yX4_is : MethodName := ⟨RX4, "is", "(Ljava/lang/String;)Z"⟩
def dkwX4_is_2 : List UInt8 := [42, 180, 0, 41, 28, 96, 51, 17, 0, 255, 126, 159, 0, 5, 3, 172, 132, 2, 1, 167, 255, 217, 4, 172]
abbrev dktX4_is_2 : List UInt8 := dkwX4_is_2 ++ []
def dkwX4_is_1 : List UInt8 := [3, 172, 3, 61, 28, 43, 182, 0, 75, 162, 0, 37, 43, 28, 182, 0, 78, 42, 180, 0, 3, 180, 0, 29]
abbrev dktX4_is_1 : List UInt8 := dkwX4_is_1 ++ dktX4_is_2
def dkwX4_is_0 : List UInt8 := [42, 180, 0, 44, 4, 160, 0, 19, 43, 182, 0, 75, 42, 180, 0, 72, 42, 180, 0, 41, 100, 159, 0, 5]
abbrev dktX4_is_0 : List UInt8 := dkwX4_is_0 ++ dktX4_is_1
theorem dksX4_is_0 : cX4_is.data.toList.drop 0 = dktX4_is_0 := by decide +kernel
theorem dksX4_is_1 : cX4_is.data.toList.drop 24 = dktX4_is_1 := dk_seg dksX4_is_0 24 rfl rfl
theorem dksX4_is_2 : cX4_is.data.toList.drop 48 = dktX4_is_2 := dk_seg dksX4_is_1 24 rfl rfl
theorem dX4_is_0 : decode cX4_is 0 = .ok (.aload_n 0, 1) := dk_42 (dk_at dksX4_is_0 0 rfl rfl)
theorem dX4_is_1 : decode cX4_is 1 = .ok (.getfield 44, 3) := dk_180 0 44 (dk_at dksX4_is_0 1 rfl rfl)
theorem dX4_is_4 : decode cX4_is 4 = .ok (.iconst 1, 1) := dk_4 (dk_at dksX4_is_0 4 rfl rfl)
theorem dX4_is_5 : decode cX4_is 5 = .ok (.if_icmp .ne 19, 3) := dk_160 0 19 (dk_at dksX4_is_0 5 rfl rfl)
theorem dX4_is_8 : decode cX4_is 8 = .ok (.aload_n 1, 1) := dk_43 (dk_at dksX4_is_0 8 rfl rfl)
theorem dX4_is_9 : decode cX4_is 9 = .ok (.invokevirtual 75, 3) := dk_182 0 75 (dk_at dksX4_is_0 9 rfl rfl)
theorem dX4_is_12 : decode cX4_is 12 = .ok (.aload_n 0, 1) := dk_42 (dk_at dksX4_is_0 12 rfl rfl)
theorem dX4_is_13 : decode cX4_is 13 = .ok (.getfield 72, 3) := dk_180 0 72 (dk_at dksX4_is_0 13 rfl rfl)
theorem dX4_is_16 : decode cX4_is 16 = .ok (.aload_n 0, 1) := dk_42 (dk_at dksX4_is_0 16 rfl rfl)
theorem dX4_is_17 : decode cX4_is 17 = .ok (.getfield 41, 3) := dk_180 0 41 (dk_at dksX4_is_0 17 rfl rfl)
theorem dX4_is_20 : decode cX4_is 20 = .ok (.isub, 1) := dk_100 (dk_at dksX4_is_0 20 rfl rfl)
theorem dX4_is_21 : decode cX4_is 21 = .ok (.if_icmp .eq 5, 3) := dk_159 0 5 (dk_at dksX4_is_0 21 rfl rfl)
theorem dX4_is_24 : decode cX4_is 24 = .ok (.iconst 0, 1) := dk_3 (dk_at dksX4_is_1 0 rfl rfl)
theorem dX4_is_25 : decode cX4_is 25 = .ok (.ireturn, 1) := dk_172 (dk_at dksX4_is_1 1 rfl rfl)
theorem dX4_is_26 : decode cX4_is 26 = .ok (.iconst 0, 1) := dk_3 (dk_at dksX4_is_1 2 rfl rfl)
theorem dX4_is_27 : decode cX4_is 27 = .ok (.istore_n 2, 1) := dk_61 (dk_at dksX4_is_1 3 rfl rfl)
theorem dX4_is_28 : decode cX4_is 28 = .ok (.iload_n 2, 1) := dk_28 (dk_at dksX4_is_1 4 rfl rfl)
theorem dX4_is_29 : decode cX4_is 29 = .ok (.aload_n 1, 1) := dk_43 (dk_at dksX4_is_1 5 rfl rfl)
theorem dX4_is_30 : decode cX4_is 30 = .ok (.invokevirtual 75, 3) := dk_182 0 75 (dk_at dksX4_is_1 6 rfl rfl)
theorem dX4_is_33 : decode cX4_is 33 = .ok (.if_icmp .ge 37, 3) := dk_162 0 37 (dk_at dksX4_is_1 9 rfl rfl)
theorem dX4_is_36 : decode cX4_is 36 = .ok (.aload_n 1, 1) := dk_43 (dk_at dksX4_is_1 12 rfl rfl)
theorem dX4_is_37 : decode cX4_is 37 = .ok (.iload_n 2, 1) := dk_28 (dk_at dksX4_is_1 13 rfl rfl)
theorem dX4_is_38 : decode cX4_is 38 = .ok (.invokevirtual 78, 3) := dk_182 0 78 (dk_at dksX4_is_1 14 rfl rfl)
theorem dX4_is_41 : decode cX4_is 41 = .ok (.aload_n 0, 1) := dk_42 (dk_at dksX4_is_1 17 rfl rfl)
theorem dX4_is_42 : decode cX4_is 42 = .ok (.getfield 3, 3) := dk_180 0 3 (dk_at dksX4_is_1 18 rfl rfl)
theorem dX4_is_45 : decode cX4_is 45 = .ok (.getfield 29, 3) := dk_180 0 29 (dk_at dksX4_is_1 21 rfl rfl)
theorem dX4_is_48 : decode cX4_is 48 = .ok (.aload_n 0, 1) := dk_42 (dk_at dksX4_is_2 0 rfl rfl)
theorem dX4_is_49 : decode cX4_is 49 = .ok (.getfield 41, 3) := dk_180 0 41 (dk_at dksX4_is_2 1 rfl rfl)
theorem dX4_is_52 : decode cX4_is 52 = .ok (.iload_n 2, 1) := dk_28 (dk_at dksX4_is_2 4 rfl rfl)
theorem dX4_is_53 : decode cX4_is 53 = .ok (.iadd, 1) := dk_96 (dk_at dksX4_is_2 5 rfl rfl)
theorem dX4_is_54 : decode cX4_is 54 = .ok (.baload, 1) := dk_51 (dk_at dksX4_is_2 6 rfl rfl)
theorem dX4_is_55 : decode cX4_is 55 = .ok (.sipush 255, 3) := dk_17 0 255 (dk_at dksX4_is_2 7 rfl rfl)
theorem dX4_is_58 : decode cX4_is 58 = .ok (.iand, 1) := dk_126 (dk_at dksX4_is_2 10 rfl rfl)
theorem dX4_is_59 : decode cX4_is 59 = .ok (.if_icmp .eq 5, 3) := dk_159 0 5 (dk_at dksX4_is_2 11 rfl rfl)
theorem dX4_is_62 : decode cX4_is 62 = .ok (.iconst 0, 1) := dk_3 (dk_at dksX4_is_2 14 rfl rfl)
theorem dX4_is_63 : decode cX4_is 63 = .ok (.ireturn, 1) := dk_172 (dk_at dksX4_is_2 15 rfl rfl)
theorem dX4_is_64 : decode cX4_is 64 = .ok (.iinc 2 1, 3) := dk_132 2 1 (dk_at dksX4_is_2 16 rfl rfl)
theorem dX4_is_67 : decode cX4_is 67 = .ok (.goto (-39), 3) := dk_167 255 217 (dk_at dksX4_is_2 19 rfl rfl)
theorem dX4_is_70 : decode cX4_is 70 = .ok (.iconst 1, 1) := dk_4 (dk_at dksX4_is_2 22 rfl rfl)
theorem dX4_is_71 : decode cX4_is 71 = .ok (.ireturn, 1) := dk_172 (dk_at dksX4_is_2 23 rfl rfl)
abbrev cX4_owl : ByteArray := prog_9_method_23_code
def yX4_owl : MethodName := ⟨RX4, "owl", "(I)V"⟩
def dkwX4_owl_7 : List UInt8 := [180, 0, 192, 44, 185, 0, 217, 2, 0, 87, 177]
abbrev dktX4_owl_7 : List UInt8 := dkwX4_owl_7 ++ []
def dkwX4_owl_6 : List UInt8 := [180, 0, 208, 29, 184, 0, 211, 185, 0, 217, 2, 0, 87, 42, 182, 0, 86, 167, 255, 165, 42, 180, 0, 18]
abbrev dktX4_owl_6 : List UInt8 := dkwX4_owl_6 ++ dktX4_owl_7
def dkwX4_owl_5 : List UInt8 := [4, 100, 182, 0, 206, 50, 29, 46, 158, 0, 7, 4, 167, 0, 4, 3, 16, 6, 182, 0, 94, 44]
abbrev dktX4_owl_5 : List UInt8 := dkwX4_owl_5 ++ dktX4_owl_6
def dkwX4_owl_4 : List UInt8 := [182, 0, 104, 62, 42, 44, 182, 0, 205, 153, 0, 26, 42, 180, 0, 18, 180, 0, 188, 44, 44, 182, 0, 205]
abbrev dktX4_owl_4 : List UInt8 := dkwX4_owl_4 ++ dktX4_owl_5
def dkwX4_owl_3 : List UInt8 := [160, 0, 89, 42, 44, 182, 0, 205, 16, 8, 162, 0, 7, 4, 167, 0, 4, 3, 5, 182, 0, 94, 42]
abbrev dktX4_owl_3 : List UInt8 := dkwX4_owl_3 ++ dktX4_owl_4
def dkwX4_owl_2 : List UInt8 := [42, 42, 180, 0, 44, 5, 160, 0, 7, 4, 167, 0, 4, 3, 4, 182, 0, 94, 42, 180, 0, 44, 5]
abbrev dktX4_owl_2 : List UInt8 := dkwX4_owl_2 ++ dktX4_owl_3
def dkwX4_owl_1 : List UInt8 := [182, 0, 94, 42, 182, 0, 86, 187, 0, 200, 89, 27, 42, 3, 17, 1, 44, 182, 0, 109, 183, 0, 202, 77]
abbrev dktX4_owl_1 : List UInt8 := dkwX4_owl_1 ++ dktX4_owl_2
def dkwX4_owl_0 : List UInt8 := [42, 42, 180, 0, 18, 180, 0, 192, 185, 0, 196, 1, 0, 8, 162, 0, 7, 4, 167, 0, 4, 3, 5]
abbrev dktX4_owl_0 : List UInt8 := dkwX4_owl_0 ++ dktX4_owl_1
theorem dksX4_owl_0 : cX4_owl.data.toList.drop 0 = dktX4_owl_0 := by decide +kernel
theorem dksX4_owl_1 : cX4_owl.data.toList.drop 23 = dktX4_owl_1 := dk_seg dksX4_owl_0 23 rfl rfl
theorem dksX4_owl_2 : cX4_owl.data.toList.drop 47 = dktX4_owl_2 := dk_seg dksX4_owl_1 24 rfl rfl
theorem dksX4_owl_3 : cX4_owl.data.toList.drop 70 = dktX4_owl_3 := dk_seg dksX4_owl_2 23 rfl rfl
theorem dksX4_owl_4 : cX4_owl.data.toList.drop 93 = dktX4_owl_4 := dk_seg dksX4_owl_3 23 rfl rfl
theorem dksX4_owl_5 : cX4_owl.data.toList.drop 117 = dktX4_owl_5 := dk_seg dksX4_owl_4 24 rfl rfl
theorem dksX4_owl_6 : cX4_owl.data.toList.drop 139 = dktX4_owl_6 := dk_seg dksX4_owl_5 22 rfl rfl
theorem dksX4_owl_7 : cX4_owl.data.toList.drop 163 = dktX4_owl_7 := dk_seg dksX4_owl_6 24 rfl rfl
theorem dX4_owl_0 : decode cX4_owl 0 = .ok (.aload_n 0, 1) := dk_42 (dk_at dksX4_owl_0 0 rfl rfl)
theorem dX4_owl_1 : decode cX4_owl 1 = .ok (.aload_n 0, 1) := dk_42 (dk_at dksX4_owl_0 1 rfl rfl)
theorem dX4_owl_2 : decode cX4_owl 2 = .ok (.getfield 18, 3) := dk_180 0 18 (dk_at dksX4_owl_0 2 rfl rfl)
theorem dX4_owl_5 : decode cX4_owl 5 = .ok (.getfield 192, 3) := dk_180 0 192 (dk_at dksX4_owl_0 5 rfl rfl)
theorem dX4_owl_8 : decode cX4_owl 8 = .ok (.invokeinterface 196 1, 5) := by decide +kernel
theorem dX4_owl_13 : decode cX4_owl 13 = .ok (.iconst 5, 1) := dk_8 (dk_at dksX4_owl_0 13 rfl rfl)
theorem dX4_owl_14 : decode cX4_owl 14 = .ok (.if_icmp .ge 7, 3) := dk_162 0 7 (dk_at dksX4_owl_0 14 rfl rfl)
theorem dX4_owl_17 : decode cX4_owl 17 = .ok (.iconst 1, 1) := dk_4 (dk_at dksX4_owl_0 17 rfl rfl)
theorem dX4_owl_18 : decode cX4_owl 18 = .ok (.goto 4, 3) := dk_167 0 4 (dk_at dksX4_owl_0 18 rfl rfl)
theorem dX4_owl_21 : decode cX4_owl 21 = .ok (.iconst 0, 1) := dk_3 (dk_at dksX4_owl_0 21 rfl rfl)
theorem dX4_owl_22 : decode cX4_owl 22 = .ok (.iconst 2, 1) := dk_5 (dk_at dksX4_owl_0 22 rfl rfl)
theorem dX4_owl_23 : decode cX4_owl 23 = .ok (.invokevirtual 94, 3) := dk_182 0 94 (dk_at dksX4_owl_1 0 rfl rfl)
theorem dX4_owl_26 : decode cX4_owl 26 = .ok (.aload_n 0, 1) := dk_42 (dk_at dksX4_owl_1 3 rfl rfl)
theorem dX4_owl_27 : decode cX4_owl 27 = .ok (.invokevirtual 86, 3) := dk_182 0 86 (dk_at dksX4_owl_1 4 rfl rfl)
theorem dX4_owl_30 : decode cX4_owl 30 = .ok (.new 200, 3) := dk_187 0 200 (dk_at dksX4_owl_1 7 rfl rfl)
theorem dX4_owl_33 : decode cX4_owl 33 = .ok (.dup, 1) := dk_89 (dk_at dksX4_owl_1 10 rfl rfl)
theorem dX4_owl_34 : decode cX4_owl 34 = .ok (.iload_n 1, 1) := dk_27 (dk_at dksX4_owl_1 11 rfl rfl)
theorem dX4_owl_35 : decode cX4_owl 35 = .ok (.aload_n 0, 1) := dk_42 (dk_at dksX4_owl_1 12 rfl rfl)
theorem dX4_owl_36 : decode cX4_owl 36 = .ok (.iconst 0, 1) := dk_3 (dk_at dksX4_owl_1 13 rfl rfl)
theorem dX4_owl_37 : decode cX4_owl 37 = .ok (.sipush 300, 3) := dk_17 1 44 (dk_at dksX4_owl_1 14 rfl rfl)
theorem dX4_owl_40 : decode cX4_owl 40 = .ok (.invokevirtual 109, 3) := dk_182 0 109 (dk_at dksX4_owl_1 17 rfl rfl)
theorem dX4_owl_43 : decode cX4_owl 43 = .ok (.invokespecial 202, 3) := dk_183 0 202 (dk_at dksX4_owl_1 20 rfl rfl)
theorem dX4_owl_46 : decode cX4_owl 46 = .ok (.astore_n 2, 1) := dk_77 (dk_at dksX4_owl_1 23 rfl rfl)
theorem dX4_owl_47 : decode cX4_owl 47 = .ok (.aload_n 0, 1) := dk_42 (dk_at dksX4_owl_2 0 rfl rfl)
theorem dX4_owl_48 : decode cX4_owl 48 = .ok (.aload_n 0, 1) := dk_42 (dk_at dksX4_owl_2 1 rfl rfl)
theorem dX4_owl_49 : decode cX4_owl 49 = .ok (.getfield 44, 3) := dk_180 0 44 (dk_at dksX4_owl_2 2 rfl rfl)
theorem dX4_owl_52 : decode cX4_owl 52 = .ok (.iconst 2, 1) := dk_5 (dk_at dksX4_owl_2 5 rfl rfl)
theorem dX4_owl_53 : decode cX4_owl 53 = .ok (.if_icmp .ne 7, 3) := dk_160 0 7 (dk_at dksX4_owl_2 6 rfl rfl)
theorem dX4_owl_56 : decode cX4_owl 56 = .ok (.iconst 1, 1) := dk_4 (dk_at dksX4_owl_2 9 rfl rfl)
theorem dX4_owl_57 : decode cX4_owl 57 = .ok (.goto 4, 3) := dk_167 0 4 (dk_at dksX4_owl_2 10 rfl rfl)
theorem dX4_owl_60 : decode cX4_owl 60 = .ok (.iconst 0, 1) := dk_3 (dk_at dksX4_owl_2 13 rfl rfl)
theorem dX4_owl_61 : decode cX4_owl 61 = .ok (.iconst 1, 1) := dk_4 (dk_at dksX4_owl_2 14 rfl rfl)
theorem dX4_owl_62 : decode cX4_owl 62 = .ok (.invokevirtual 94, 3) := dk_182 0 94 (dk_at dksX4_owl_2 15 rfl rfl)
theorem dX4_owl_65 : decode cX4_owl 65 = .ok (.aload_n 0, 1) := dk_42 (dk_at dksX4_owl_2 18 rfl rfl)
theorem dX4_owl_66 : decode cX4_owl 66 = .ok (.getfield 44, 3) := dk_180 0 44 (dk_at dksX4_owl_2 19 rfl rfl)
theorem dX4_owl_69 : decode cX4_owl 69 = .ok (.iconst 2, 1) := dk_5 (dk_at dksX4_owl_2 22 rfl rfl)
theorem dX4_owl_70 : decode cX4_owl 70 = .ok (.if_icmp .ne 89, 3) := dk_160 0 89 (dk_at dksX4_owl_3 0 rfl rfl)
theorem dX4_owl_73 : decode cX4_owl 73 = .ok (.aload_n 0, 1) := dk_42 (dk_at dksX4_owl_3 3 rfl rfl)
theorem dX4_owl_74 : decode cX4_owl 74 = .ok (.aload_n 2, 1) := dk_44 (dk_at dksX4_owl_3 4 rfl rfl)
theorem dX4_owl_75 : decode cX4_owl 75 = .ok (.invokevirtual 205, 3) := dk_182 0 205 (dk_at dksX4_owl_3 5 rfl rfl)
theorem dX4_owl_78 : decode cX4_owl 78 = .ok (.bipush 8, 2) := dk_16 8 (dk_at dksX4_owl_3 8 rfl rfl)
theorem dX4_owl_80 : decode cX4_owl 80 = .ok (.if_icmp .ge 7, 3) := dk_162 0 7 (dk_at dksX4_owl_3 10 rfl rfl)
theorem dX4_owl_83 : decode cX4_owl 83 = .ok (.iconst 1, 1) := dk_4 (dk_at dksX4_owl_3 13 rfl rfl)
theorem dX4_owl_84 : decode cX4_owl 84 = .ok (.goto 4, 3) := dk_167 0 4 (dk_at dksX4_owl_3 14 rfl rfl)
theorem dX4_owl_87 : decode cX4_owl 87 = .ok (.iconst 0, 1) := dk_3 (dk_at dksX4_owl_3 17 rfl rfl)
theorem dX4_owl_88 : decode cX4_owl 88 = .ok (.iconst 2, 1) := dk_5 (dk_at dksX4_owl_3 18 rfl rfl)
theorem dX4_owl_89 : decode cX4_owl 89 = .ok (.invokevirtual 94, 3) := dk_182 0 94 (dk_at dksX4_owl_3 19 rfl rfl)
theorem dX4_owl_92 : decode cX4_owl 92 = .ok (.aload_n 0, 1) := dk_42 (dk_at dksX4_owl_3 22 rfl rfl)
theorem dX4_owl_93 : decode cX4_owl 93 = .ok (.invokevirtual 104, 3) := dk_182 0 104 (dk_at dksX4_owl_4 0 rfl rfl)
theorem dX4_owl_96 : decode cX4_owl 96 = .ok (.istore_n 3, 1) := dk_62 (dk_at dksX4_owl_4 3 rfl rfl)
theorem dX4_owl_97 : decode cX4_owl 97 = .ok (.aload_n 0, 1) := dk_42 (dk_at dksX4_owl_4 4 rfl rfl)
theorem dX4_owl_98 : decode cX4_owl 98 = .ok (.aload_n 2, 1) := dk_44 (dk_at dksX4_owl_4 5 rfl rfl)
theorem dX4_owl_99 : decode cX4_owl 99 = .ok (.invokevirtual 205, 3) := dk_182 0 205 (dk_at dksX4_owl_4 6 rfl rfl)
theorem dX4_owl_102 : decode cX4_owl 102 = .ok (.ifCond .eq 26, 3) := dk_153 0 26 (dk_at dksX4_owl_4 9 rfl rfl)
theorem dX4_owl_105 : decode cX4_owl 105 = .ok (.aload_n 0, 1) := dk_42 (dk_at dksX4_owl_4 12 rfl rfl)
theorem dX4_owl_106 : decode cX4_owl 106 = .ok (.getfield 18, 3) := dk_180 0 18 (dk_at dksX4_owl_4 13 rfl rfl)
theorem dX4_owl_109 : decode cX4_owl 109 = .ok (.getfield 188, 3) := dk_180 0 188 (dk_at dksX4_owl_4 16 rfl rfl)
theorem dX4_owl_112 : decode cX4_owl 112 = .ok (.aload_n 2, 1) := dk_44 (dk_at dksX4_owl_4 19 rfl rfl)
theorem dX4_owl_113 : decode cX4_owl 113 = .ok (.aload_n 2, 1) := dk_44 (dk_at dksX4_owl_4 20 rfl rfl)
theorem dX4_owl_114 : decode cX4_owl 114 = .ok (.invokevirtual 205, 3) := dk_182 0 205 (dk_at dksX4_owl_4 21 rfl rfl)
theorem dX4_owl_117 : decode cX4_owl 117 = .ok (.iconst 1, 1) := dk_4 (dk_at dksX4_owl_5 0 rfl rfl)
theorem dX4_owl_118 : decode cX4_owl 118 = .ok (.isub, 1) := dk_100 (dk_at dksX4_owl_5 1 rfl rfl)
theorem dX4_owl_119 : decode cX4_owl 119 = .ok (.invokevirtual 206, 3) := dk_182 0 206 (dk_at dksX4_owl_5 2 rfl rfl)
theorem dX4_owl_122 : decode cX4_owl 122 = .ok (.aaload, 1) := dk_50 (dk_at dksX4_owl_5 5 rfl rfl)
theorem dX4_owl_123 : decode cX4_owl 123 = .ok (.iload_n 3, 1) := dk_29 (dk_at dksX4_owl_5 6 rfl rfl)
theorem dX4_owl_124 : decode cX4_owl 124 = .ok (.iaload, 1) := dk_46 (dk_at dksX4_owl_5 7 rfl rfl)
theorem dX4_owl_125 : decode cX4_owl 125 = .ok (.ifCond .le 7, 3) := dk_158 0 7 (dk_at dksX4_owl_5 8 rfl rfl)
theorem dX4_owl_128 : decode cX4_owl 128 = .ok (.iconst 1, 1) := dk_4 (dk_at dksX4_owl_5 11 rfl rfl)
theorem dX4_owl_129 : decode cX4_owl 129 = .ok (.goto 4, 3) := dk_167 0 4 (dk_at dksX4_owl_5 12 rfl rfl)
theorem dX4_owl_132 : decode cX4_owl 132 = .ok (.iconst 0, 1) := dk_3 (dk_at dksX4_owl_5 15 rfl rfl)
theorem dX4_owl_133 : decode cX4_owl 133 = .ok (.bipush 6, 2) := dk_16 6 (dk_at dksX4_owl_5 16 rfl rfl)
theorem dX4_owl_135 : decode cX4_owl 135 = .ok (.invokevirtual 94, 3) := dk_182 0 94 (dk_at dksX4_owl_5 18 rfl rfl)
theorem dX4_owl_138 : decode cX4_owl 138 = .ok (.aload_n 2, 1) := dk_44 (dk_at dksX4_owl_5 21 rfl rfl)
theorem dX4_owl_139 : decode cX4_owl 139 = .ok (.getfield 208, 3) := dk_180 0 208 (dk_at dksX4_owl_6 0 rfl rfl)
theorem dX4_owl_142 : decode cX4_owl 142 = .ok (.iload_n 3, 1) := dk_29 (dk_at dksX4_owl_6 3 rfl rfl)
theorem dX4_owl_143 : decode cX4_owl 143 = .ok (.invokestatic 211, 3) := dk_184 0 211 (dk_at dksX4_owl_6 4 rfl rfl)
theorem dX4_owl_146 : decode cX4_owl 146 = .ok (.invokeinterface 217 2, 5) := by decide +kernel
theorem dX4_owl_151 : decode cX4_owl 151 = .ok (.pop, 1) := dk_87 (dk_at dksX4_owl_6 12 rfl rfl)
theorem dX4_owl_152 : decode cX4_owl 152 = .ok (.aload_n 0, 1) := dk_42 (dk_at dksX4_owl_6 13 rfl rfl)
theorem dX4_owl_153 : decode cX4_owl 153 = .ok (.invokevirtual 86, 3) := dk_182 0 86 (dk_at dksX4_owl_6 14 rfl rfl)
theorem dX4_owl_156 : decode cX4_owl 156 = .ok (.goto (-91), 3) := dk_167 255 165 (dk_at dksX4_owl_6 17 rfl rfl)
theorem dX4_owl_159 : decode cX4_owl 159 = .ok (.aload_n 0, 1) := dk_42 (dk_at dksX4_owl_6 20 rfl rfl)
theorem dX4_owl_160 : decode cX4_owl 160 = .ok (.getfield 18, 3) := dk_180 0 18 (dk_at dksX4_owl_6 21 rfl rfl)
theorem dX4_owl_163 : decode cX4_owl 163 = .ok (.getfield 192, 3) := dk_180 0 192 (dk_at dksX4_owl_7 0 rfl rfl)
theorem dX4_owl_166 : decode cX4_owl 166 = .ok (.aload_n 2, 1) := dk_44 (dk_at dksX4_owl_7 3 rfl rfl)
theorem dX4_owl_167 : decode cX4_owl 167 = .ok (.invokeinterface 217 2, 5) := by decide +kernel
theorem dX4_owl_172 : decode cX4_owl 172 = .ok (.pop, 1) := dk_87 (dk_at dksX4_owl_7 9 rfl rfl)
theorem dX4_owl_173 : decode cX4_owl 173 = .ok (.return_, 1) := dk_177 (dk_at dksX4_owl_7 10 rfl rfl)
abbrev cX4_want : ByteArray := prog_9_method_9_code
def yX4_want : MethodName := ⟨RX4, "want", "(ZI)V"⟩
def dkwX4_want_0 : List UInt8 := [27, 154, 0, 12, 187, 0, 89, 89, 28, 183, 0, 91, 191, 177]
abbrev dktX4_want_0 : List UInt8 := dkwX4_want_0 ++ []
theorem dksX4_want_0 : cX4_want.data.toList.drop 0 = dktX4_want_0 := by decide +kernel
theorem dX4_want_0 : decode cX4_want 0 = .ok (.iload_n 1, 1) := dk_27 (dk_at dksX4_want_0 0 rfl rfl)
theorem dX4_want_1 : decode cX4_want 1 = .ok (.ifCond .ne 12, 3) := dk_154 0 12 (dk_at dksX4_want_0 1 rfl rfl)
theorem dX4_want_4 : decode cX4_want 4 = .ok (.new 89, 3) := dk_187 0 89 (dk_at dksX4_want_0 4 rfl rfl)
theorem dX4_want_7 : decode cX4_want 7 = .ok (.dup, 1) := dk_89 (dk_at dksX4_want_0 7 rfl rfl)
theorem dX4_want_8 : decode cX4_want 8 = .ok (.iload_n 2, 1) := dk_28 (dk_at dksX4_want_0 8 rfl rfl)
theorem dX4_want_9 : decode cX4_want 9 = .ok (.invokespecial 91, 3) := dk_183 0 91 (dk_at dksX4_want_0 9 rfl rfl)
theorem dX4_want_12 : decode cX4_want 12 = .ok (.athrow, 1) := dk_191 (dk_at dksX4_want_0 12 rfl rfl)
theorem dX4_want_13 : decode cX4_want 13 = .ok (.return_, 1) := dk_177 (dk_at dksX4_want_0 13 rfl rfl)
abbrev cX4_number : ByteArray := prog_9_method_11_code
def yX4_number : MethodName := ⟨RX4, "number", "(II)I"⟩
def dkwX4_number_0 : List UInt8 := [42, 27, 28, 182, 0, 98, 62, 42, 182, 0, 86, 29, 172]
abbrev dktX4_number_0 : List UInt8 := dkwX4_number_0 ++ []
theorem dksX4_number_0 : cX4_number.data.toList.drop 0 = dktX4_number_0 := by decide +kernel
theorem dX4_number_0 : decode cX4_number 0 = .ok (.aload_n 0, 1) := dk_42 (dk_at dksX4_number_0 0 rfl rfl)
theorem dX4_number_1 : decode cX4_number 1 = .ok (.iload_n 1, 1) := dk_27 (dk_at dksX4_number_0 1 rfl rfl)
theorem dX4_number_2 : decode cX4_number 2 = .ok (.iload_n 2, 1) := dk_28 (dk_at dksX4_number_0 2 rfl rfl)
theorem dX4_number_3 : decode cX4_number 3 = .ok (.invokevirtual 98, 3) := dk_182 0 98 (dk_at dksX4_number_0 3 rfl rfl)
theorem dX4_number_6 : decode cX4_number 6 = .ok (.istore_n 3, 1) := dk_62 (dk_at dksX4_number_0 6 rfl rfl)
theorem dX4_number_7 : decode cX4_number 7 = .ok (.aload_n 0, 1) := dk_42 (dk_at dksX4_number_0 7 rfl rfl)
theorem dX4_number_8 : decode cX4_number 8 = .ok (.invokevirtual 86, 3) := dk_182 0 86 (dk_at dksX4_number_0 8 rfl rfl)
theorem dX4_number_11 : decode cX4_number 11 = .ok (.iload_n 3, 1) := dk_29 (dk_at dksX4_number_0 11 rfl rfl)
theorem dX4_number_12 : decode cX4_number 12 = .ok (.ireturn, 1) := dk_172 (dk_at dksX4_number_0 12 rfl rfl)
abbrev cX4_numberNow : ByteArray := prog_9_method_10_code
def yX4_numberNow : MethodName := ⟨RX4, "numberNow", "(II)I"⟩
def dkwX4_numberNow_2 : List UInt8 := [4, 167, 0, 4, 3, 5, 182, 0, 94, 42, 180, 0, 54, 172]
abbrev dktX4_numberNow_2 : List UInt8 := dkwX4_numberNow_2 ++ []
def dkwX4_numberNow_1 : List UInt8 := [180, 0, 41, 100, 7, 163, 0, 23, 42, 180, 0, 54, 27, 161, 0, 15, 42, 180, 0, 54, 28, 163, 0, 7]
abbrev dktX4_numberNow_1 : List UInt8 := dkwX4_numberNow_1 ++ dktX4_numberNow_2
def dkwX4_numberNow_0 : List UInt8 := [42, 42, 180, 0, 44, 5, 160, 0, 7, 4, 167, 0, 4, 3, 4, 182, 0, 94, 42, 42, 180, 0, 72, 42]
abbrev dktX4_numberNow_0 : List UInt8 := dkwX4_numberNow_0 ++ dktX4_numberNow_1
theorem dksX4_numberNow_0 : cX4_numberNow.data.toList.drop 0 = dktX4_numberNow_0 := by decide +kernel
theorem dksX4_numberNow_1 : cX4_numberNow.data.toList.drop 24 = dktX4_numberNow_1 := dk_seg dksX4_numberNow_0 24 rfl rfl
theorem dksX4_numberNow_2 : cX4_numberNow.data.toList.drop 48 = dktX4_numberNow_2 := dk_seg dksX4_numberNow_1 24 rfl rfl
theorem dX4_numberNow_0 : decode cX4_numberNow 0 = .ok (.aload_n 0, 1) := dk_42 (dk_at dksX4_numberNow_0 0 rfl rfl)
theorem dX4_numberNow_1 : decode cX4_numberNow 1 = .ok (.aload_n 0, 1) := dk_42 (dk_at dksX4_numberNow_0 1 rfl rfl)
theorem dX4_numberNow_2 : decode cX4_numberNow 2 = .ok (.getfield 44, 3) := dk_180 0 44 (dk_at dksX4_numberNow_0 2 rfl rfl)
theorem dX4_numberNow_5 : decode cX4_numberNow 5 = .ok (.iconst 2, 1) := dk_5 (dk_at dksX4_numberNow_0 5 rfl rfl)
theorem dX4_numberNow_6 : decode cX4_numberNow 6 = .ok (.if_icmp .ne 7, 3) := dk_160 0 7 (dk_at dksX4_numberNow_0 6 rfl rfl)
theorem dX4_numberNow_9 : decode cX4_numberNow 9 = .ok (.iconst 1, 1) := dk_4 (dk_at dksX4_numberNow_0 9 rfl rfl)
theorem dX4_numberNow_10 : decode cX4_numberNow 10 = .ok (.goto 4, 3) := dk_167 0 4 (dk_at dksX4_numberNow_0 10 rfl rfl)
theorem dX4_numberNow_13 : decode cX4_numberNow 13 = .ok (.iconst 0, 1) := dk_3 (dk_at dksX4_numberNow_0 13 rfl rfl)
theorem dX4_numberNow_14 : decode cX4_numberNow 14 = .ok (.iconst 1, 1) := dk_4 (dk_at dksX4_numberNow_0 14 rfl rfl)
theorem dX4_numberNow_15 : decode cX4_numberNow 15 = .ok (.invokevirtual 94, 3) := dk_182 0 94 (dk_at dksX4_numberNow_0 15 rfl rfl)
theorem dX4_numberNow_18 : decode cX4_numberNow 18 = .ok (.aload_n 0, 1) := dk_42 (dk_at dksX4_numberNow_0 18 rfl rfl)
theorem dX4_numberNow_19 : decode cX4_numberNow 19 = .ok (.aload_n 0, 1) := dk_42 (dk_at dksX4_numberNow_0 19 rfl rfl)
theorem dX4_numberNow_20 : decode cX4_numberNow 20 = .ok (.getfield 72, 3) := dk_180 0 72 (dk_at dksX4_numberNow_0 20 rfl rfl)
theorem dX4_numberNow_23 : decode cX4_numberNow 23 = .ok (.aload_n 0, 1) := dk_42 (dk_at dksX4_numberNow_0 23 rfl rfl)
theorem dX4_numberNow_24 : decode cX4_numberNow 24 = .ok (.getfield 41, 3) := dk_180 0 41 (dk_at dksX4_numberNow_1 0 rfl rfl)
theorem dX4_numberNow_27 : decode cX4_numberNow 27 = .ok (.isub, 1) := dk_100 (dk_at dksX4_numberNow_1 3 rfl rfl)
theorem dX4_numberNow_28 : decode cX4_numberNow 28 = .ok (.iconst 4, 1) := dk_7 (dk_at dksX4_numberNow_1 4 rfl rfl)
theorem dX4_numberNow_29 : decode cX4_numberNow 29 = .ok (.if_icmp .gt 23, 3) := dk_163 0 23 (dk_at dksX4_numberNow_1 5 rfl rfl)
theorem dX4_numberNow_32 : decode cX4_numberNow 32 = .ok (.aload_n 0, 1) := dk_42 (dk_at dksX4_numberNow_1 8 rfl rfl)
theorem dX4_numberNow_33 : decode cX4_numberNow 33 = .ok (.getfield 54, 3) := dk_180 0 54 (dk_at dksX4_numberNow_1 9 rfl rfl)
theorem dX4_numberNow_36 : decode cX4_numberNow 36 = .ok (.iload_n 1, 1) := dk_27 (dk_at dksX4_numberNow_1 12 rfl rfl)
theorem dX4_numberNow_37 : decode cX4_numberNow 37 = .ok (.if_icmp .lt 15, 3) := dk_161 0 15 (dk_at dksX4_numberNow_1 13 rfl rfl)
theorem dX4_numberNow_40 : decode cX4_numberNow 40 = .ok (.aload_n 0, 1) := dk_42 (dk_at dksX4_numberNow_1 16 rfl rfl)
theorem dX4_numberNow_41 : decode cX4_numberNow 41 = .ok (.getfield 54, 3) := dk_180 0 54 (dk_at dksX4_numberNow_1 17 rfl rfl)
theorem dX4_numberNow_44 : decode cX4_numberNow 44 = .ok (.iload_n 2, 1) := dk_28 (dk_at dksX4_numberNow_1 20 rfl rfl)
theorem dX4_numberNow_45 : decode cX4_numberNow 45 = .ok (.if_icmp .gt 7, 3) := dk_163 0 7 (dk_at dksX4_numberNow_1 21 rfl rfl)
theorem dX4_numberNow_48 : decode cX4_numberNow 48 = .ok (.iconst 1, 1) := dk_4 (dk_at dksX4_numberNow_2 0 rfl rfl)
theorem dX4_numberNow_49 : decode cX4_numberNow 49 = .ok (.goto 4, 3) := dk_167 0 4 (dk_at dksX4_numberNow_2 1 rfl rfl)
theorem dX4_numberNow_52 : decode cX4_numberNow 52 = .ok (.iconst 0, 1) := dk_3 (dk_at dksX4_numberNow_2 4 rfl rfl)
theorem dX4_numberNow_53 : decode cX4_numberNow 53 = .ok (.iconst 2, 1) := dk_5 (dk_at dksX4_numberNow_2 5 rfl rfl)
theorem dX4_numberNow_54 : decode cX4_numberNow 54 = .ok (.invokevirtual 94, 3) := dk_182 0 94 (dk_at dksX4_numberNow_2 6 rfl rfl)
theorem dX4_numberNow_57 : decode cX4_numberNow 57 = .ok (.aload_n 0, 1) := dk_42 (dk_at dksX4_numberNow_2 9 rfl rfl)
theorem dX4_numberNow_58 : decode cX4_numberNow 58 = .ok (.getfield 54, 3) := dk_180 0 54 (dk_at dksX4_numberNow_2 10 rfl rfl)
theorem dX4_numberNow_61 : decode cX4_numberNow 61 = .ok (.ireturn, 1) := dk_172 (dk_at dksX4_numberNow_2 13 rfl rfl)
abbrev cX4_roofNow : ByteArray := prog_9_method_12_code
def yX4_roofNow : MethodName := ⟨RX4, "roofNow", "()I"⟩
def dkwX4_roofNow_1 : List UInt8 := [167, 0, 4, 3, 6, 182, 0, 94, 27, 172]
abbrev dktX4_roofNow_1 : List UInt8 := dkwX4_roofNow_1 ++ []
def dkwX4_roofNow_0 : List UInt8 := [42, 3, 17, 39, 15, 182, 0, 98, 60, 42, 27, 42, 180, 0, 18, 180, 0, 101, 162, 0, 7, 4]
abbrev dktX4_roofNow_0 : List UInt8 := dkwX4_roofNow_0 ++ dktX4_roofNow_1
theorem dksX4_roofNow_0 : cX4_roofNow.data.toList.drop 0 = dktX4_roofNow_0 := by decide +kernel
theorem dksX4_roofNow_1 : cX4_roofNow.data.toList.drop 22 = dktX4_roofNow_1 := dk_seg dksX4_roofNow_0 22 rfl rfl
theorem dX4_roofNow_0 : decode cX4_roofNow 0 = .ok (.aload_n 0, 1) := dk_42 (dk_at dksX4_roofNow_0 0 rfl rfl)
theorem dX4_roofNow_1 : decode cX4_roofNow 1 = .ok (.iconst 0, 1) := dk_3 (dk_at dksX4_roofNow_0 1 rfl rfl)
theorem dX4_roofNow_2 : decode cX4_roofNow 2 = .ok (.sipush 9999, 3) := dk_17 39 15 (dk_at dksX4_roofNow_0 2 rfl rfl)
theorem dX4_roofNow_5 : decode cX4_roofNow 5 = .ok (.invokevirtual 98, 3) := dk_182 0 98 (dk_at dksX4_roofNow_0 5 rfl rfl)
theorem dX4_roofNow_8 : decode cX4_roofNow 8 = .ok (.istore_n 1, 1) := dk_60 (dk_at dksX4_roofNow_0 8 rfl rfl)
theorem dX4_roofNow_9 : decode cX4_roofNow 9 = .ok (.aload_n 0, 1) := dk_42 (dk_at dksX4_roofNow_0 9 rfl rfl)
theorem dX4_roofNow_10 : decode cX4_roofNow 10 = .ok (.iload_n 1, 1) := dk_27 (dk_at dksX4_roofNow_0 10 rfl rfl)
theorem dX4_roofNow_11 : decode cX4_roofNow 11 = .ok (.aload_n 0, 1) := dk_42 (dk_at dksX4_roofNow_0 11 rfl rfl)
theorem dX4_roofNow_12 : decode cX4_roofNow 12 = .ok (.getfield 18, 3) := dk_180 0 18 (dk_at dksX4_roofNow_0 12 rfl rfl)
theorem dX4_roofNow_15 : decode cX4_roofNow 15 = .ok (.getfield 101, 3) := dk_180 0 101 (dk_at dksX4_roofNow_0 15 rfl rfl)
theorem dX4_roofNow_18 : decode cX4_roofNow 18 = .ok (.if_icmp .ge 7, 3) := dk_162 0 7 (dk_at dksX4_roofNow_0 18 rfl rfl)
theorem dX4_roofNow_21 : decode cX4_roofNow 21 = .ok (.iconst 1, 1) := dk_4 (dk_at dksX4_roofNow_0 21 rfl rfl)
theorem dX4_roofNow_22 : decode cX4_roofNow 22 = .ok (.goto 4, 3) := dk_167 0 4 (dk_at dksX4_roofNow_1 0 rfl rfl)
theorem dX4_roofNow_25 : decode cX4_roofNow 25 = .ok (.iconst 0, 1) := dk_3 (dk_at dksX4_roofNow_1 3 rfl rfl)
theorem dX4_roofNow_26 : decode cX4_roofNow 26 = .ok (.iconst 3, 1) := dk_6 (dk_at dksX4_roofNow_1 4 rfl rfl)
theorem dX4_roofNow_27 : decode cX4_roofNow 27 = .ok (.invokevirtual 94, 3) := dk_182 0 94 (dk_at dksX4_roofNow_1 5 rfl rfl)
theorem dX4_roofNow_30 : decode cX4_roofNow 30 = .ok (.iload_n 1, 1) := dk_27 (dk_at dksX4_roofNow_1 8 rfl rfl)
theorem dX4_roofNow_31 : decode cX4_roofNow 31 = .ok (.ireturn, 1) := dk_172 (dk_at dksX4_roofNow_1 9 rfl rfl)
abbrev cX4_aRoof : ByteArray := prog_9_method_21_code
def yX4_aRoof : MethodName := ⟨RX4, "aRoof", "()V"⟩
def dkwX4_aRoof_2 : List UInt8 := [79, 42, 180, 0, 18, 89, 180, 0, 101, 4, 96, 181, 0, 101, 177]
abbrev dktX4_aRoof_2 : List UInt8 := dkwX4_aRoof_2 ++ []
def dkwX4_aRoof_1 : List UInt8 := [182, 0, 86, 42, 180, 0, 18, 180, 0, 179, 42, 180, 0, 18, 180, 0, 101, 42, 3, 16, 9, 182, 0, 109]
abbrev dktX4_aRoof_1 : List UInt8 := dkwX4_aRoof_1 ++ dktX4_aRoof_2
def dkwX4_aRoof_0 : List UInt8 := [42, 42, 180, 0, 18, 180, 0, 101, 16, 10, 162, 0, 7, 4, 167, 0, 4, 3, 5, 182, 0, 94, 42]
abbrev dktX4_aRoof_0 : List UInt8 := dkwX4_aRoof_0 ++ dktX4_aRoof_1
theorem dksX4_aRoof_0 : cX4_aRoof.data.toList.drop 0 = dktX4_aRoof_0 := by decide +kernel
theorem dksX4_aRoof_1 : cX4_aRoof.data.toList.drop 23 = dktX4_aRoof_1 := dk_seg dksX4_aRoof_0 23 rfl rfl
theorem dksX4_aRoof_2 : cX4_aRoof.data.toList.drop 47 = dktX4_aRoof_2 := dk_seg dksX4_aRoof_1 24 rfl rfl
theorem dX4_aRoof_0 : decode cX4_aRoof 0 = .ok (.aload_n 0, 1) := dk_42 (dk_at dksX4_aRoof_0 0 rfl rfl)
theorem dX4_aRoof_1 : decode cX4_aRoof 1 = .ok (.aload_n 0, 1) := dk_42 (dk_at dksX4_aRoof_0 1 rfl rfl)
theorem dX4_aRoof_2 : decode cX4_aRoof 2 = .ok (.getfield 18, 3) := dk_180 0 18 (dk_at dksX4_aRoof_0 2 rfl rfl)
theorem dX4_aRoof_5 : decode cX4_aRoof 5 = .ok (.getfield 101, 3) := dk_180 0 101 (dk_at dksX4_aRoof_0 5 rfl rfl)
theorem dX4_aRoof_8 : decode cX4_aRoof 8 = .ok (.bipush 10, 2) := dk_16 10 (dk_at dksX4_aRoof_0 8 rfl rfl)
theorem dX4_aRoof_10 : decode cX4_aRoof 10 = .ok (.if_icmp .ge 7, 3) := dk_162 0 7 (dk_at dksX4_aRoof_0 10 rfl rfl)
theorem dX4_aRoof_13 : decode cX4_aRoof 13 = .ok (.iconst 1, 1) := dk_4 (dk_at dksX4_aRoof_0 13 rfl rfl)
theorem dX4_aRoof_14 : decode cX4_aRoof 14 = .ok (.goto 4, 3) := dk_167 0 4 (dk_at dksX4_aRoof_0 14 rfl rfl)
theorem dX4_aRoof_17 : decode cX4_aRoof 17 = .ok (.iconst 0, 1) := dk_3 (dk_at dksX4_aRoof_0 17 rfl rfl)
theorem dX4_aRoof_18 : decode cX4_aRoof 18 = .ok (.iconst 2, 1) := dk_5 (dk_at dksX4_aRoof_0 18 rfl rfl)
theorem dX4_aRoof_19 : decode cX4_aRoof 19 = .ok (.invokevirtual 94, 3) := dk_182 0 94 (dk_at dksX4_aRoof_0 19 rfl rfl)
theorem dX4_aRoof_22 : decode cX4_aRoof 22 = .ok (.aload_n 0, 1) := dk_42 (dk_at dksX4_aRoof_0 22 rfl rfl)
theorem dX4_aRoof_23 : decode cX4_aRoof 23 = .ok (.invokevirtual 86, 3) := dk_182 0 86 (dk_at dksX4_aRoof_1 0 rfl rfl)
theorem dX4_aRoof_26 : decode cX4_aRoof 26 = .ok (.aload_n 0, 1) := dk_42 (dk_at dksX4_aRoof_1 3 rfl rfl)
theorem dX4_aRoof_27 : decode cX4_aRoof 27 = .ok (.getfield 18, 3) := dk_180 0 18 (dk_at dksX4_aRoof_1 4 rfl rfl)
theorem dX4_aRoof_30 : decode cX4_aRoof 30 = .ok (.getfield 179, 3) := dk_180 0 179 (dk_at dksX4_aRoof_1 7 rfl rfl)
theorem dX4_aRoof_33 : decode cX4_aRoof 33 = .ok (.aload_n 0, 1) := dk_42 (dk_at dksX4_aRoof_1 10 rfl rfl)
theorem dX4_aRoof_34 : decode cX4_aRoof 34 = .ok (.getfield 18, 3) := dk_180 0 18 (dk_at dksX4_aRoof_1 11 rfl rfl)
theorem dX4_aRoof_37 : decode cX4_aRoof 37 = .ok (.getfield 101, 3) := dk_180 0 101 (dk_at dksX4_aRoof_1 14 rfl rfl)
theorem dX4_aRoof_40 : decode cX4_aRoof 40 = .ok (.aload_n 0, 1) := dk_42 (dk_at dksX4_aRoof_1 17 rfl rfl)
theorem dX4_aRoof_41 : decode cX4_aRoof 41 = .ok (.iconst 0, 1) := dk_3 (dk_at dksX4_aRoof_1 18 rfl rfl)
theorem dX4_aRoof_42 : decode cX4_aRoof 42 = .ok (.bipush 9, 2) := dk_16 9 (dk_at dksX4_aRoof_1 19 rfl rfl)
theorem dX4_aRoof_44 : decode cX4_aRoof 44 = .ok (.invokevirtual 109, 3) := dk_182 0 109 (dk_at dksX4_aRoof_1 21 rfl rfl)
theorem dX4_aRoof_47 : decode cX4_aRoof 47 = .ok (.iastore, 1) := dk_79 (dk_at dksX4_aRoof_2 0 rfl rfl)
theorem dX4_aRoof_48 : decode cX4_aRoof 48 = .ok (.aload_n 0, 1) := dk_42 (dk_at dksX4_aRoof_2 1 rfl rfl)
theorem dX4_aRoof_49 : decode cX4_aRoof 49 = .ok (.getfield 18, 3) := dk_180 0 18 (dk_at dksX4_aRoof_2 2 rfl rfl)
theorem dX4_aRoof_52 : decode cX4_aRoof 52 = .ok (.dup, 1) := dk_89 (dk_at dksX4_aRoof_2 5 rfl rfl)
theorem dX4_aRoof_53 : decode cX4_aRoof 53 = .ok (.getfield 101, 3) := dk_180 0 101 (dk_at dksX4_aRoof_2 6 rfl rfl)
theorem dX4_aRoof_56 : decode cX4_aRoof 56 = .ok (.iconst 1, 1) := dk_4 (dk_at dksX4_aRoof_2 9 rfl rfl)
theorem dX4_aRoof_57 : decode cX4_aRoof 57 = .ok (.iadd, 1) := dk_96 (dk_at dksX4_aRoof_2 10 rfl rfl)
theorem dX4_aRoof_58 : decode cX4_aRoof 58 = .ok (.putfield 101, 3) := dk_181 0 101 (dk_at dksX4_aRoof_2 11 rfl rfl)
theorem dX4_aRoof_61 : decode cX4_aRoof 61 = .ok (.return_, 1) := dk_177 (dk_at dksX4_aRoof_2 14 rfl rfl)
abbrev cX4_flight : ByteArray := prog_9_method_22_code
def yX4_flight : MethodName := ⟨RX4, "flight", "()V"⟩
def dkwX4_flight_4 : List UInt8 := [180, 0, 188, 28, 50, 27, 29, 79, 42, 180, 0, 18, 89, 180, 0, 182, 4, 96, 181, 0, 182, 177]
abbrev dktX4_flight_4 : List UInt8 := dkwX4_flight_4 ++ []
def dkwX4_flight_3 : List UInt8 := [4, 16, 60, 182, 0, 109, 62, 42, 180, 0, 18, 180, 0, 188, 27, 50, 28, 29, 79, 42, 180, 0, 18]
abbrev dktX4_flight_3 : List UInt8 := dkwX4_flight_3 ++ dktX4_flight_4
def dkwX4_flight_2 : List UInt8 := [180, 0, 188, 27, 50, 28, 46, 154, 0, 7, 4, 167, 0, 4, 3, 7, 182, 0, 94, 42, 182, 0, 86, 42]
abbrev dktX4_flight_2 : List UInt8 := dkwX4_flight_2 ++ dktX4_flight_3
def dkwX4_flight_1 : List UInt8 := [182, 0, 86, 42, 182, 0, 185, 60, 42, 182, 0, 104, 61, 42, 27, 28, 159, 0, 21, 42, 180, 0, 18]
abbrev dktX4_flight_1 : List UInt8 := dkwX4_flight_1 ++ dktX4_flight_2
def dkwX4_flight_0 : List UInt8 := [42, 42, 180, 0, 18, 180, 0, 182, 16, 18, 162, 0, 7, 4, 167, 0, 4, 3, 5, 182, 0, 94, 42]
abbrev dktX4_flight_0 : List UInt8 := dkwX4_flight_0 ++ dktX4_flight_1
theorem dksX4_flight_0 : cX4_flight.data.toList.drop 0 = dktX4_flight_0 := by decide +kernel
theorem dksX4_flight_1 : cX4_flight.data.toList.drop 23 = dktX4_flight_1 := dk_seg dksX4_flight_0 23 rfl rfl
theorem dksX4_flight_2 : cX4_flight.data.toList.drop 46 = dktX4_flight_2 := dk_seg dksX4_flight_1 23 rfl rfl
theorem dksX4_flight_3 : cX4_flight.data.toList.drop 70 = dktX4_flight_3 := dk_seg dksX4_flight_2 24 rfl rfl
theorem dksX4_flight_4 : cX4_flight.data.toList.drop 93 = dktX4_flight_4 := dk_seg dksX4_flight_3 23 rfl rfl
theorem dX4_flight_0 : decode cX4_flight 0 = .ok (.aload_n 0, 1) := dk_42 (dk_at dksX4_flight_0 0 rfl rfl)
theorem dX4_flight_1 : decode cX4_flight 1 = .ok (.aload_n 0, 1) := dk_42 (dk_at dksX4_flight_0 1 rfl rfl)
theorem dX4_flight_2 : decode cX4_flight 2 = .ok (.getfield 18, 3) := dk_180 0 18 (dk_at dksX4_flight_0 2 rfl rfl)
theorem dX4_flight_5 : decode cX4_flight 5 = .ok (.getfield 182, 3) := dk_180 0 182 (dk_at dksX4_flight_0 5 rfl rfl)
theorem dX4_flight_8 : decode cX4_flight 8 = .ok (.bipush 18, 2) := dk_16 18 (dk_at dksX4_flight_0 8 rfl rfl)
theorem dX4_flight_10 : decode cX4_flight 10 = .ok (.if_icmp .ge 7, 3) := dk_162 0 7 (dk_at dksX4_flight_0 10 rfl rfl)
theorem dX4_flight_13 : decode cX4_flight 13 = .ok (.iconst 1, 1) := dk_4 (dk_at dksX4_flight_0 13 rfl rfl)
theorem dX4_flight_14 : decode cX4_flight 14 = .ok (.goto 4, 3) := dk_167 0 4 (dk_at dksX4_flight_0 14 rfl rfl)
theorem dX4_flight_17 : decode cX4_flight 17 = .ok (.iconst 0, 1) := dk_3 (dk_at dksX4_flight_0 17 rfl rfl)
theorem dX4_flight_18 : decode cX4_flight 18 = .ok (.iconst 2, 1) := dk_5 (dk_at dksX4_flight_0 18 rfl rfl)
theorem dX4_flight_19 : decode cX4_flight 19 = .ok (.invokevirtual 94, 3) := dk_182 0 94 (dk_at dksX4_flight_0 19 rfl rfl)
theorem dX4_flight_22 : decode cX4_flight 22 = .ok (.aload_n 0, 1) := dk_42 (dk_at dksX4_flight_0 22 rfl rfl)
theorem dX4_flight_23 : decode cX4_flight 23 = .ok (.invokevirtual 86, 3) := dk_182 0 86 (dk_at dksX4_flight_1 0 rfl rfl)
theorem dX4_flight_26 : decode cX4_flight 26 = .ok (.aload_n 0, 1) := dk_42 (dk_at dksX4_flight_1 3 rfl rfl)
theorem dX4_flight_27 : decode cX4_flight 27 = .ok (.invokevirtual 185, 3) := dk_182 0 185 (dk_at dksX4_flight_1 4 rfl rfl)
theorem dX4_flight_30 : decode cX4_flight 30 = .ok (.istore_n 1, 1) := dk_60 (dk_at dksX4_flight_1 7 rfl rfl)
theorem dX4_flight_31 : decode cX4_flight 31 = .ok (.aload_n 0, 1) := dk_42 (dk_at dksX4_flight_1 8 rfl rfl)
theorem dX4_flight_32 : decode cX4_flight 32 = .ok (.invokevirtual 104, 3) := dk_182 0 104 (dk_at dksX4_flight_1 9 rfl rfl)
theorem dX4_flight_35 : decode cX4_flight 35 = .ok (.istore_n 2, 1) := dk_61 (dk_at dksX4_flight_1 12 rfl rfl)
theorem dX4_flight_36 : decode cX4_flight 36 = .ok (.aload_n 0, 1) := dk_42 (dk_at dksX4_flight_1 13 rfl rfl)
theorem dX4_flight_37 : decode cX4_flight 37 = .ok (.iload_n 1, 1) := dk_27 (dk_at dksX4_flight_1 14 rfl rfl)
theorem dX4_flight_38 : decode cX4_flight 38 = .ok (.iload_n 2, 1) := dk_28 (dk_at dksX4_flight_1 15 rfl rfl)
theorem dX4_flight_39 : decode cX4_flight 39 = .ok (.if_icmp .eq 21, 3) := dk_159 0 21 (dk_at dksX4_flight_1 16 rfl rfl)
theorem dX4_flight_42 : decode cX4_flight 42 = .ok (.aload_n 0, 1) := dk_42 (dk_at dksX4_flight_1 19 rfl rfl)
theorem dX4_flight_43 : decode cX4_flight 43 = .ok (.getfield 18, 3) := dk_180 0 18 (dk_at dksX4_flight_1 20 rfl rfl)
theorem dX4_flight_46 : decode cX4_flight 46 = .ok (.getfield 188, 3) := dk_180 0 188 (dk_at dksX4_flight_2 0 rfl rfl)
theorem dX4_flight_49 : decode cX4_flight 49 = .ok (.iload_n 1, 1) := dk_27 (dk_at dksX4_flight_2 3 rfl rfl)
theorem dX4_flight_50 : decode cX4_flight 50 = .ok (.aaload, 1) := dk_50 (dk_at dksX4_flight_2 4 rfl rfl)
theorem dX4_flight_51 : decode cX4_flight 51 = .ok (.iload_n 2, 1) := dk_28 (dk_at dksX4_flight_2 5 rfl rfl)
theorem dX4_flight_52 : decode cX4_flight 52 = .ok (.iaload, 1) := dk_46 (dk_at dksX4_flight_2 6 rfl rfl)
theorem dX4_flight_53 : decode cX4_flight 53 = .ok (.ifCond .ne 7, 3) := dk_154 0 7 (dk_at dksX4_flight_2 7 rfl rfl)
theorem dX4_flight_56 : decode cX4_flight 56 = .ok (.iconst 1, 1) := dk_4 (dk_at dksX4_flight_2 10 rfl rfl)
theorem dX4_flight_57 : decode cX4_flight 57 = .ok (.goto 4, 3) := dk_167 0 4 (dk_at dksX4_flight_2 11 rfl rfl)
theorem dX4_flight_60 : decode cX4_flight 60 = .ok (.iconst 0, 1) := dk_3 (dk_at dksX4_flight_2 14 rfl rfl)
theorem dX4_flight_61 : decode cX4_flight 61 = .ok (.iconst 4, 1) := dk_7 (dk_at dksX4_flight_2 15 rfl rfl)
theorem dX4_flight_62 : decode cX4_flight 62 = .ok (.invokevirtual 94, 3) := dk_182 0 94 (dk_at dksX4_flight_2 16 rfl rfl)
theorem dX4_flight_65 : decode cX4_flight 65 = .ok (.aload_n 0, 1) := dk_42 (dk_at dksX4_flight_2 19 rfl rfl)
theorem dX4_flight_66 : decode cX4_flight 66 = .ok (.invokevirtual 86, 3) := dk_182 0 86 (dk_at dksX4_flight_2 20 rfl rfl)
theorem dX4_flight_69 : decode cX4_flight 69 = .ok (.aload_n 0, 1) := dk_42 (dk_at dksX4_flight_2 23 rfl rfl)
theorem dX4_flight_70 : decode cX4_flight 70 = .ok (.iconst 1, 1) := dk_4 (dk_at dksX4_flight_3 0 rfl rfl)
theorem dX4_flight_71 : decode cX4_flight 71 = .ok (.bipush 60, 2) := dk_16 60 (dk_at dksX4_flight_3 1 rfl rfl)
theorem dX4_flight_73 : decode cX4_flight 73 = .ok (.invokevirtual 109, 3) := dk_182 0 109 (dk_at dksX4_flight_3 3 rfl rfl)
theorem dX4_flight_76 : decode cX4_flight 76 = .ok (.istore_n 3, 1) := dk_62 (dk_at dksX4_flight_3 6 rfl rfl)
theorem dX4_flight_77 : decode cX4_flight 77 = .ok (.aload_n 0, 1) := dk_42 (dk_at dksX4_flight_3 7 rfl rfl)
theorem dX4_flight_78 : decode cX4_flight 78 = .ok (.getfield 18, 3) := dk_180 0 18 (dk_at dksX4_flight_3 8 rfl rfl)
theorem dX4_flight_81 : decode cX4_flight 81 = .ok (.getfield 188, 3) := dk_180 0 188 (dk_at dksX4_flight_3 11 rfl rfl)
theorem dX4_flight_84 : decode cX4_flight 84 = .ok (.iload_n 1, 1) := dk_27 (dk_at dksX4_flight_3 14 rfl rfl)
theorem dX4_flight_85 : decode cX4_flight 85 = .ok (.aaload, 1) := dk_50 (dk_at dksX4_flight_3 15 rfl rfl)
theorem dX4_flight_86 : decode cX4_flight 86 = .ok (.iload_n 2, 1) := dk_28 (dk_at dksX4_flight_3 16 rfl rfl)
theorem dX4_flight_87 : decode cX4_flight 87 = .ok (.iload_n 3, 1) := dk_29 (dk_at dksX4_flight_3 17 rfl rfl)
theorem dX4_flight_88 : decode cX4_flight 88 = .ok (.iastore, 1) := dk_79 (dk_at dksX4_flight_3 18 rfl rfl)
theorem dX4_flight_89 : decode cX4_flight 89 = .ok (.aload_n 0, 1) := dk_42 (dk_at dksX4_flight_3 19 rfl rfl)
theorem dX4_flight_90 : decode cX4_flight 90 = .ok (.getfield 18, 3) := dk_180 0 18 (dk_at dksX4_flight_3 20 rfl rfl)
theorem dX4_flight_93 : decode cX4_flight 93 = .ok (.getfield 188, 3) := dk_180 0 188 (dk_at dksX4_flight_4 0 rfl rfl)
theorem dX4_flight_96 : decode cX4_flight 96 = .ok (.iload_n 2, 1) := dk_28 (dk_at dksX4_flight_4 3 rfl rfl)
theorem dX4_flight_97 : decode cX4_flight 97 = .ok (.aaload, 1) := dk_50 (dk_at dksX4_flight_4 4 rfl rfl)
theorem dX4_flight_98 : decode cX4_flight 98 = .ok (.iload_n 1, 1) := dk_27 (dk_at dksX4_flight_4 5 rfl rfl)
theorem dX4_flight_99 : decode cX4_flight 99 = .ok (.iload_n 3, 1) := dk_29 (dk_at dksX4_flight_4 6 rfl rfl)
theorem dX4_flight_100 : decode cX4_flight 100 = .ok (.iastore, 1) := dk_79 (dk_at dksX4_flight_4 7 rfl rfl)
theorem dX4_flight_101 : decode cX4_flight 101 = .ok (.aload_n 0, 1) := dk_42 (dk_at dksX4_flight_4 8 rfl rfl)
theorem dX4_flight_102 : decode cX4_flight 102 = .ok (.getfield 18, 3) := dk_180 0 18 (dk_at dksX4_flight_4 9 rfl rfl)
theorem dX4_flight_105 : decode cX4_flight 105 = .ok (.dup, 1) := dk_89 (dk_at dksX4_flight_4 12 rfl rfl)
theorem dX4_flight_106 : decode cX4_flight 106 = .ok (.getfield 182, 3) := dk_180 0 182 (dk_at dksX4_flight_4 13 rfl rfl)
theorem dX4_flight_109 : decode cX4_flight 109 = .ok (.iconst 1, 1) := dk_4 (dk_at dksX4_flight_4 16 rfl rfl)
theorem dX4_flight_110 : decode cX4_flight 110 = .ok (.iadd, 1) := dk_96 (dk_at dksX4_flight_4 17 rfl rfl)
theorem dX4_flight_111 : decode cX4_flight 111 = .ok (.putfield 182, 3) := dk_181 0 182 (dk_at dksX4_flight_4 18 rfl rfl)
theorem dX4_flight_114 : decode cX4_flight 114 = .ok (.return_, 1) := dk_177 (dk_at dksX4_flight_4 21 rfl rfl)
abbrev cX4_roof : ByteArray := prog_9_method_13_code
def yX4_roof : MethodName := ⟨RX4, "roof", "()I"⟩
def dkwX4_roof_0 : List UInt8 := [42, 182, 0, 104, 60, 42, 182, 0, 86, 27, 172]
abbrev dktX4_roof_0 : List UInt8 := dkwX4_roof_0 ++ []
theorem dksX4_roof_0 : cX4_roof.data.toList.drop 0 = dktX4_roof_0 := by decide +kernel
theorem dX4_roof_0 : decode cX4_roof 0 = .ok (.aload_n 0, 1) := dk_42 (dk_at dksX4_roof_0 0 rfl rfl)
theorem dX4_roof_1 : decode cX4_roof 1 = .ok (.invokevirtual 104, 3) := dk_182 0 104 (dk_at dksX4_roof_0 1 rfl rfl)
theorem dX4_roof_4 : decode cX4_roof 4 = .ok (.istore_n 1, 1) := dk_60 (dk_at dksX4_roof_0 4 rfl rfl)
theorem dX4_roof_5 : decode cX4_roof 5 = .ok (.aload_n 0, 1) := dk_42 (dk_at dksX4_roof_0 5 rfl rfl)
theorem dX4_roof_6 : decode cX4_roof 6 = .ok (.invokevirtual 86, 3) := dk_182 0 86 (dk_at dksX4_roof_0 6 rfl rfl)
theorem dX4_roof_9 : decode cX4_roof 9 = .ok (.iload_n 1, 1) := dk_27 (dk_at dksX4_roof_0 9 rfl rfl)
theorem dX4_roof_10 : decode cX4_roof 10 = .ok (.ireturn, 1) := dk_172 (dk_at dksX4_roof_0 10 rfl rfl)
abbrev cX4_rider : ByteArray := prog_9_method_24_code
def yX4_rider : MethodName := ⟨RX4, "rider", "()V"⟩
def dkwX4_rider_3 : List UInt8 := [29, 79, 89, 6, 42, 3, 16, 9, 182, 0, 109, 79, 185, 0, 217, 2, 0, 87, 177]
abbrev dktX4_rider_3 : List UInt8 := dkwX4_rider_3 ++ []
def dkwX4_rider_2 : List UInt8 := [182, 0, 109, 62, 42, 180, 0, 18, 180, 0, 220, 7, 188, 10, 89, 3, 27, 79, 89, 4, 28, 79, 89, 5]
abbrev dktX4_rider_2 : List UInt8 := dkwX4_rider_2 ++ dktX4_rider_3
def dkwX4_rider_1 : List UInt8 := [182, 0, 94, 42, 182, 0, 86, 42, 182, 0, 185, 60, 42, 182, 0, 185, 61, 42, 3, 17, 1, 144]
abbrev dktX4_rider_1 : List UInt8 := dkwX4_rider_1 ++ dktX4_rider_2
def dkwX4_rider_0 : List UInt8 := [42, 42, 180, 0, 18, 180, 0, 220, 185, 0, 196, 1, 0, 16, 8, 162, 0, 7, 4, 167, 0, 4, 3, 5]
abbrev dktX4_rider_0 : List UInt8 := dkwX4_rider_0 ++ dktX4_rider_1
theorem dksX4_rider_0 : cX4_rider.data.toList.drop 0 = dktX4_rider_0 := by decide +kernel
theorem dksX4_rider_1 : cX4_rider.data.toList.drop 24 = dktX4_rider_1 := dk_seg dksX4_rider_0 24 rfl rfl
theorem dksX4_rider_2 : cX4_rider.data.toList.drop 46 = dktX4_rider_2 := dk_seg dksX4_rider_1 22 rfl rfl
theorem dksX4_rider_3 : cX4_rider.data.toList.drop 70 = dktX4_rider_3 := dk_seg dksX4_rider_2 24 rfl rfl
theorem dX4_rider_0 : decode cX4_rider 0 = .ok (.aload_n 0, 1) := dk_42 (dk_at dksX4_rider_0 0 rfl rfl)
theorem dX4_rider_1 : decode cX4_rider 1 = .ok (.aload_n 0, 1) := dk_42 (dk_at dksX4_rider_0 1 rfl rfl)
theorem dX4_rider_2 : decode cX4_rider 2 = .ok (.getfield 18, 3) := dk_180 0 18 (dk_at dksX4_rider_0 2 rfl rfl)
theorem dX4_rider_5 : decode cX4_rider 5 = .ok (.getfield 220, 3) := dk_180 0 220 (dk_at dksX4_rider_0 5 rfl rfl)
theorem dX4_rider_8 : decode cX4_rider 8 = .ok (.invokeinterface 196 1, 5) := by decide +kernel
theorem dX4_rider_13 : decode cX4_rider 13 = .ok (.bipush 8, 2) := dk_16 8 (dk_at dksX4_rider_0 13 rfl rfl)
theorem dX4_rider_15 : decode cX4_rider 15 = .ok (.if_icmp .ge 7, 3) := dk_162 0 7 (dk_at dksX4_rider_0 15 rfl rfl)
theorem dX4_rider_18 : decode cX4_rider 18 = .ok (.iconst 1, 1) := dk_4 (dk_at dksX4_rider_0 18 rfl rfl)
theorem dX4_rider_19 : decode cX4_rider 19 = .ok (.goto 4, 3) := dk_167 0 4 (dk_at dksX4_rider_0 19 rfl rfl)
theorem dX4_rider_22 : decode cX4_rider 22 = .ok (.iconst 0, 1) := dk_3 (dk_at dksX4_rider_0 22 rfl rfl)
theorem dX4_rider_23 : decode cX4_rider 23 = .ok (.iconst 2, 1) := dk_5 (dk_at dksX4_rider_0 23 rfl rfl)
theorem dX4_rider_24 : decode cX4_rider 24 = .ok (.invokevirtual 94, 3) := dk_182 0 94 (dk_at dksX4_rider_1 0 rfl rfl)
theorem dX4_rider_27 : decode cX4_rider 27 = .ok (.aload_n 0, 1) := dk_42 (dk_at dksX4_rider_1 3 rfl rfl)
theorem dX4_rider_28 : decode cX4_rider 28 = .ok (.invokevirtual 86, 3) := dk_182 0 86 (dk_at dksX4_rider_1 4 rfl rfl)
theorem dX4_rider_31 : decode cX4_rider 31 = .ok (.aload_n 0, 1) := dk_42 (dk_at dksX4_rider_1 7 rfl rfl)
theorem dX4_rider_32 : decode cX4_rider 32 = .ok (.invokevirtual 185, 3) := dk_182 0 185 (dk_at dksX4_rider_1 8 rfl rfl)
theorem dX4_rider_35 : decode cX4_rider 35 = .ok (.istore_n 1, 1) := dk_60 (dk_at dksX4_rider_1 11 rfl rfl)
theorem dX4_rider_36 : decode cX4_rider 36 = .ok (.aload_n 0, 1) := dk_42 (dk_at dksX4_rider_1 12 rfl rfl)
theorem dX4_rider_37 : decode cX4_rider 37 = .ok (.invokevirtual 185, 3) := dk_182 0 185 (dk_at dksX4_rider_1 13 rfl rfl)
theorem dX4_rider_40 : decode cX4_rider 40 = .ok (.istore_n 2, 1) := dk_61 (dk_at dksX4_rider_1 16 rfl rfl)
theorem dX4_rider_41 : decode cX4_rider 41 = .ok (.aload_n 0, 1) := dk_42 (dk_at dksX4_rider_1 17 rfl rfl)
theorem dX4_rider_42 : decode cX4_rider 42 = .ok (.iconst 0, 1) := dk_3 (dk_at dksX4_rider_1 18 rfl rfl)
theorem dX4_rider_43 : decode cX4_rider 43 = .ok (.sipush 400, 3) := dk_17 1 144 (dk_at dksX4_rider_1 19 rfl rfl)
theorem dX4_rider_46 : decode cX4_rider 46 = .ok (.invokevirtual 109, 3) := dk_182 0 109 (dk_at dksX4_rider_2 0 rfl rfl)
theorem dX4_rider_49 : decode cX4_rider 49 = .ok (.istore_n 3, 1) := dk_62 (dk_at dksX4_rider_2 3 rfl rfl)
theorem dX4_rider_50 : decode cX4_rider 50 = .ok (.aload_n 0, 1) := dk_42 (dk_at dksX4_rider_2 4 rfl rfl)
theorem dX4_rider_51 : decode cX4_rider 51 = .ok (.getfield 18, 3) := dk_180 0 18 (dk_at dksX4_rider_2 5 rfl rfl)
theorem dX4_rider_54 : decode cX4_rider 54 = .ok (.getfield 220, 3) := dk_180 0 220 (dk_at dksX4_rider_2 8 rfl rfl)
theorem dX4_rider_57 : decode cX4_rider 57 = .ok (.iconst 4, 1) := dk_7 (dk_at dksX4_rider_2 11 rfl rfl)
theorem dX4_rider_58 : decode cX4_rider 58 = .ok (.newarray .int, 2) := dk_188_10 (dk_at dksX4_rider_2 12 rfl rfl)
theorem dX4_rider_60 : decode cX4_rider 60 = .ok (.dup, 1) := dk_89 (dk_at dksX4_rider_2 14 rfl rfl)
theorem dX4_rider_61 : decode cX4_rider 61 = .ok (.iconst 0, 1) := dk_3 (dk_at dksX4_rider_2 15 rfl rfl)
theorem dX4_rider_62 : decode cX4_rider 62 = .ok (.iload_n 1, 1) := dk_27 (dk_at dksX4_rider_2 16 rfl rfl)
theorem dX4_rider_63 : decode cX4_rider 63 = .ok (.iastore, 1) := dk_79 (dk_at dksX4_rider_2 17 rfl rfl)
theorem dX4_rider_64 : decode cX4_rider 64 = .ok (.dup, 1) := dk_89 (dk_at dksX4_rider_2 18 rfl rfl)
theorem dX4_rider_65 : decode cX4_rider 65 = .ok (.iconst 1, 1) := dk_4 (dk_at dksX4_rider_2 19 rfl rfl)
theorem dX4_rider_66 : decode cX4_rider 66 = .ok (.iload_n 2, 1) := dk_28 (dk_at dksX4_rider_2 20 rfl rfl)
theorem dX4_rider_67 : decode cX4_rider 67 = .ok (.iastore, 1) := dk_79 (dk_at dksX4_rider_2 21 rfl rfl)
theorem dX4_rider_68 : decode cX4_rider 68 = .ok (.dup, 1) := dk_89 (dk_at dksX4_rider_2 22 rfl rfl)
theorem dX4_rider_69 : decode cX4_rider 69 = .ok (.iconst 2, 1) := dk_5 (dk_at dksX4_rider_2 23 rfl rfl)
theorem dX4_rider_70 : decode cX4_rider 70 = .ok (.iload_n 3, 1) := dk_29 (dk_at dksX4_rider_3 0 rfl rfl)
theorem dX4_rider_71 : decode cX4_rider 71 = .ok (.iastore, 1) := dk_79 (dk_at dksX4_rider_3 1 rfl rfl)
theorem dX4_rider_72 : decode cX4_rider 72 = .ok (.dup, 1) := dk_89 (dk_at dksX4_rider_3 2 rfl rfl)
theorem dX4_rider_73 : decode cX4_rider 73 = .ok (.iconst 3, 1) := dk_6 (dk_at dksX4_rider_3 3 rfl rfl)
theorem dX4_rider_74 : decode cX4_rider 74 = .ok (.aload_n 0, 1) := dk_42 (dk_at dksX4_rider_3 4 rfl rfl)
theorem dX4_rider_75 : decode cX4_rider 75 = .ok (.iconst 0, 1) := dk_3 (dk_at dksX4_rider_3 5 rfl rfl)
theorem dX4_rider_76 : decode cX4_rider 76 = .ok (.bipush 9, 2) := dk_16 9 (dk_at dksX4_rider_3 6 rfl rfl)
theorem dX4_rider_78 : decode cX4_rider 78 = .ok (.invokevirtual 109, 3) := dk_182 0 109 (dk_at dksX4_rider_3 8 rfl rfl)
theorem dX4_rider_81 : decode cX4_rider 81 = .ok (.iastore, 1) := dk_79 (dk_at dksX4_rider_3 11 rfl rfl)
theorem dX4_rider_82 : decode cX4_rider 82 = .ok (.invokeinterface 217 2, 5) := by decide +kernel
theorem dX4_rider_87 : decode cX4_rider 87 = .ok (.pop, 1) := dk_87 (dk_at dksX4_rider_3 17 rfl rfl)
theorem dX4_rider_88 : decode cX4_rider 88 = .ok (.return_, 1) := dk_177 (dk_at dksX4_rider_3 18 rfl rfl)
abbrev cX4_expression : ByteArray := prog_9_method_20_code
def yX4_expression : MethodName := ⟨RX4, "expression", "(I)LWingTrams$Form;"⟩
def dkwX4_expression_3 : List UInt8 := [153, 0, 17, 44, 16, 124, 42, 27, 182, 0, 175, 182, 0, 149, 167, 255, 236, 44, 182, 0, 153, 176]
abbrev dktX4_expression_3 : List UInt8 := dkwX4_expression_3 ++ []
def dkwX4_expression_2 : List UInt8 := [5, 182, 0, 94, 187, 0, 137, 89, 42, 27, 182, 0, 175, 183, 0, 142, 77, 42, 18, 177, 182, 0, 172]
abbrev dktX4_expression_2 : List UInt8 := dkwX4_expression_2 ++ dktX4_expression_3
def dkwX4_expression_1 : List UInt8 := [153, 0, 7, 4, 167, 0, 4, 3, 4, 182, 0, 94, 42, 27, 16, 6, 162, 0, 7, 4, 167, 0, 4, 3]
abbrev dktX4_expression_1 : List UInt8 := dkwX4_expression_1 ++ dktX4_expression_2
def dkwX4_expression_0 : List UInt8 := [42, 42, 180, 0, 44, 5, 159, 0, 20, 42, 180, 0, 44, 4, 159, 0, 12, 42, 16, 40, 182, 0, 112]
abbrev dktX4_expression_0 : List UInt8 := dkwX4_expression_0 ++ dktX4_expression_1
theorem dksX4_expression_0 : cX4_expression.data.toList.drop 0 = dktX4_expression_0 := by decide +kernel
theorem dksX4_expression_1 : cX4_expression.data.toList.drop 23 = dktX4_expression_1 := dk_seg dksX4_expression_0 23 rfl rfl
theorem dksX4_expression_2 : cX4_expression.data.toList.drop 47 = dktX4_expression_2 := dk_seg dksX4_expression_1 24 rfl rfl
theorem dksX4_expression_3 : cX4_expression.data.toList.drop 70 = dktX4_expression_3 := dk_seg dksX4_expression_2 23 rfl rfl
theorem dX4_expression_0 : decode cX4_expression 0 = .ok (.aload_n 0, 1) := dk_42 (dk_at dksX4_expression_0 0 rfl rfl)
theorem dX4_expression_1 : decode cX4_expression 1 = .ok (.aload_n 0, 1) := dk_42 (dk_at dksX4_expression_0 1 rfl rfl)
theorem dX4_expression_2 : decode cX4_expression 2 = .ok (.getfield 44, 3) := dk_180 0 44 (dk_at dksX4_expression_0 2 rfl rfl)
theorem dX4_expression_5 : decode cX4_expression 5 = .ok (.iconst 2, 1) := dk_5 (dk_at dksX4_expression_0 5 rfl rfl)
theorem dX4_expression_6 : decode cX4_expression 6 = .ok (.if_icmp .eq 20, 3) := dk_159 0 20 (dk_at dksX4_expression_0 6 rfl rfl)
theorem dX4_expression_9 : decode cX4_expression 9 = .ok (.aload_n 0, 1) := dk_42 (dk_at dksX4_expression_0 9 rfl rfl)
theorem dX4_expression_10 : decode cX4_expression 10 = .ok (.getfield 44, 3) := dk_180 0 44 (dk_at dksX4_expression_0 10 rfl rfl)
theorem dX4_expression_13 : decode cX4_expression 13 = .ok (.iconst 1, 1) := dk_4 (dk_at dksX4_expression_0 13 rfl rfl)
theorem dX4_expression_14 : decode cX4_expression 14 = .ok (.if_icmp .eq 12, 3) := dk_159 0 12 (dk_at dksX4_expression_0 14 rfl rfl)
theorem dX4_expression_17 : decode cX4_expression 17 = .ok (.aload_n 0, 1) := dk_42 (dk_at dksX4_expression_0 17 rfl rfl)
theorem dX4_expression_18 : decode cX4_expression 18 = .ok (.bipush 40, 2) := dk_16 40 (dk_at dksX4_expression_0 18 rfl rfl)
theorem dX4_expression_20 : decode cX4_expression 20 = .ok (.invokevirtual 112, 3) := dk_182 0 112 (dk_at dksX4_expression_0 20 rfl rfl)
theorem dX4_expression_23 : decode cX4_expression 23 = .ok (.ifCond .eq 7, 3) := dk_153 0 7 (dk_at dksX4_expression_1 0 rfl rfl)
theorem dX4_expression_26 : decode cX4_expression 26 = .ok (.iconst 1, 1) := dk_4 (dk_at dksX4_expression_1 3 rfl rfl)
theorem dX4_expression_27 : decode cX4_expression 27 = .ok (.goto 4, 3) := dk_167 0 4 (dk_at dksX4_expression_1 4 rfl rfl)
theorem dX4_expression_30 : decode cX4_expression 30 = .ok (.iconst 0, 1) := dk_3 (dk_at dksX4_expression_1 7 rfl rfl)
theorem dX4_expression_31 : decode cX4_expression 31 = .ok (.iconst 1, 1) := dk_4 (dk_at dksX4_expression_1 8 rfl rfl)
theorem dX4_expression_32 : decode cX4_expression 32 = .ok (.invokevirtual 94, 3) := dk_182 0 94 (dk_at dksX4_expression_1 9 rfl rfl)
theorem dX4_expression_35 : decode cX4_expression 35 = .ok (.aload_n 0, 1) := dk_42 (dk_at dksX4_expression_1 12 rfl rfl)
theorem dX4_expression_36 : decode cX4_expression 36 = .ok (.iload_n 1, 1) := dk_27 (dk_at dksX4_expression_1 13 rfl rfl)
theorem dX4_expression_37 : decode cX4_expression 37 = .ok (.bipush 6, 2) := dk_16 6 (dk_at dksX4_expression_1 14 rfl rfl)
theorem dX4_expression_39 : decode cX4_expression 39 = .ok (.if_icmp .ge 7, 3) := dk_162 0 7 (dk_at dksX4_expression_1 16 rfl rfl)
theorem dX4_expression_42 : decode cX4_expression 42 = .ok (.iconst 1, 1) := dk_4 (dk_at dksX4_expression_1 19 rfl rfl)
theorem dX4_expression_43 : decode cX4_expression 43 = .ok (.goto 4, 3) := dk_167 0 4 (dk_at dksX4_expression_1 20 rfl rfl)
theorem dX4_expression_46 : decode cX4_expression 46 = .ok (.iconst 0, 1) := dk_3 (dk_at dksX4_expression_1 23 rfl rfl)
theorem dX4_expression_47 : decode cX4_expression 47 = .ok (.iconst 2, 1) := dk_5 (dk_at dksX4_expression_2 0 rfl rfl)
theorem dX4_expression_48 : decode cX4_expression 48 = .ok (.invokevirtual 94, 3) := dk_182 0 94 (dk_at dksX4_expression_2 1 rfl rfl)
theorem dX4_expression_51 : decode cX4_expression 51 = .ok (.new 137, 3) := dk_187 0 137 (dk_at dksX4_expression_2 4 rfl rfl)
theorem dX4_expression_54 : decode cX4_expression 54 = .ok (.dup, 1) := dk_89 (dk_at dksX4_expression_2 7 rfl rfl)
theorem dX4_expression_55 : decode cX4_expression 55 = .ok (.aload_n 0, 1) := dk_42 (dk_at dksX4_expression_2 8 rfl rfl)
theorem dX4_expression_56 : decode cX4_expression 56 = .ok (.iload_n 1, 1) := dk_27 (dk_at dksX4_expression_2 9 rfl rfl)
theorem dX4_expression_57 : decode cX4_expression 57 = .ok (.invokevirtual 175, 3) := dk_182 0 175 (dk_at dksX4_expression_2 10 rfl rfl)
theorem dX4_expression_60 : decode cX4_expression 60 = .ok (.invokespecial 142, 3) := dk_183 0 142 (dk_at dksX4_expression_2 13 rfl rfl)
theorem dX4_expression_63 : decode cX4_expression 63 = .ok (.astore_n 2, 1) := dk_77 (dk_at dksX4_expression_2 16 rfl rfl)
theorem dX4_expression_64 : decode cX4_expression 64 = .ok (.aload_n 0, 1) := dk_42 (dk_at dksX4_expression_2 17 rfl rfl)
theorem dX4_expression_65 : decode cX4_expression 65 = .ok (.ldc 177, 2) := dk_18 177 (dk_at dksX4_expression_2 18 rfl rfl)
theorem dX4_expression_67 : decode cX4_expression 67 = .ok (.invokevirtual 172, 3) := dk_182 0 172 (dk_at dksX4_expression_2 20 rfl rfl)
theorem dX4_expression_70 : decode cX4_expression 70 = .ok (.ifCond .eq 17, 3) := dk_153 0 17 (dk_at dksX4_expression_3 0 rfl rfl)
theorem dX4_expression_73 : decode cX4_expression 73 = .ok (.aload_n 2, 1) := dk_44 (dk_at dksX4_expression_3 3 rfl rfl)
theorem dX4_expression_74 : decode cX4_expression 74 = .ok (.bipush 124, 2) := dk_16 124 (dk_at dksX4_expression_3 4 rfl rfl)
theorem dX4_expression_76 : decode cX4_expression 76 = .ok (.aload_n 0, 1) := dk_42 (dk_at dksX4_expression_3 6 rfl rfl)
theorem dX4_expression_77 : decode cX4_expression 77 = .ok (.iload_n 1, 1) := dk_27 (dk_at dksX4_expression_3 7 rfl rfl)
theorem dX4_expression_78 : decode cX4_expression 78 = .ok (.invokevirtual 175, 3) := dk_182 0 175 (dk_at dksX4_expression_3 8 rfl rfl)
theorem dX4_expression_81 : decode cX4_expression 81 = .ok (.invokevirtual 149, 3) := dk_182 0 149 (dk_at dksX4_expression_3 11 rfl rfl)
theorem dX4_expression_84 : decode cX4_expression 84 = .ok (.goto (-20), 3) := dk_167 255 236 (dk_at dksX4_expression_3 14 rfl rfl)
theorem dX4_expression_87 : decode cX4_expression 87 = .ok (.aload_n 2, 1) := dk_44 (dk_at dksX4_expression_3 17 rfl rfl)
theorem dX4_expression_88 : decode cX4_expression 88 = .ok (.invokevirtual 153, 3) := dk_182 0 153 (dk_at dksX4_expression_3 18 rfl rfl)
theorem dX4_expression_91 : decode cX4_expression 91 = .ok (.areturn, 1) := dk_176 (dk_at dksX4_expression_3 21 rfl rfl)
abbrev cX4_isSign : ByteArray := prog_9_method_7_code
def yX4_isSign : MethodName := ⟨RX4, "isSign", "(C)Z"⟩
def dkwX4_isSign_1 : List UInt8 := [4, 167, 0, 4, 3, 172]
abbrev dktX4_isSign_1 : List UInt8 := dkwX4_isSign_1 ++ []
def dkwX4_isSign_0 : List UInt8 := [42, 180, 0, 44, 6, 160, 0, 23, 42, 180, 0, 3, 180, 0, 29, 42, 180, 0, 41, 51, 27, 160, 0, 7]
abbrev dktX4_isSign_0 : List UInt8 := dkwX4_isSign_0 ++ dktX4_isSign_1
theorem dksX4_isSign_0 : cX4_isSign.data.toList.drop 0 = dktX4_isSign_0 := by decide +kernel
theorem dksX4_isSign_1 : cX4_isSign.data.toList.drop 24 = dktX4_isSign_1 := dk_seg dksX4_isSign_0 24 rfl rfl
theorem dX4_isSign_0 : decode cX4_isSign 0 = .ok (.aload_n 0, 1) := dk_42 (dk_at dksX4_isSign_0 0 rfl rfl)
theorem dX4_isSign_1 : decode cX4_isSign 1 = .ok (.getfield 44, 3) := dk_180 0 44 (dk_at dksX4_isSign_0 1 rfl rfl)
theorem dX4_isSign_4 : decode cX4_isSign 4 = .ok (.iconst 3, 1) := dk_6 (dk_at dksX4_isSign_0 4 rfl rfl)
theorem dX4_isSign_5 : decode cX4_isSign 5 = .ok (.if_icmp .ne 23, 3) := dk_160 0 23 (dk_at dksX4_isSign_0 5 rfl rfl)
theorem dX4_isSign_8 : decode cX4_isSign 8 = .ok (.aload_n 0, 1) := dk_42 (dk_at dksX4_isSign_0 8 rfl rfl)
theorem dX4_isSign_9 : decode cX4_isSign 9 = .ok (.getfield 3, 3) := dk_180 0 3 (dk_at dksX4_isSign_0 9 rfl rfl)
theorem dX4_isSign_12 : decode cX4_isSign 12 = .ok (.getfield 29, 3) := dk_180 0 29 (dk_at dksX4_isSign_0 12 rfl rfl)
theorem dX4_isSign_15 : decode cX4_isSign 15 = .ok (.aload_n 0, 1) := dk_42 (dk_at dksX4_isSign_0 15 rfl rfl)
theorem dX4_isSign_16 : decode cX4_isSign 16 = .ok (.getfield 41, 3) := dk_180 0 41 (dk_at dksX4_isSign_0 16 rfl rfl)
theorem dX4_isSign_19 : decode cX4_isSign 19 = .ok (.baload, 1) := dk_51 (dk_at dksX4_isSign_0 19 rfl rfl)
theorem dX4_isSign_20 : decode cX4_isSign 20 = .ok (.iload_n 1, 1) := dk_27 (dk_at dksX4_isSign_0 20 rfl rfl)
theorem dX4_isSign_21 : decode cX4_isSign 21 = .ok (.if_icmp .ne 7, 3) := dk_160 0 7 (dk_at dksX4_isSign_0 21 rfl rfl)
theorem dX4_isSign_24 : decode cX4_isSign 24 = .ok (.iconst 1, 1) := dk_4 (dk_at dksX4_isSign_1 0 rfl rfl)
theorem dX4_isSign_25 : decode cX4_isSign 25 = .ok (.goto 4, 3) := dk_167 0 4 (dk_at dksX4_isSign_1 1 rfl rfl)
theorem dX4_isSign_28 : decode cX4_isSign 28 = .ok (.iconst 0, 1) := dk_3 (dk_at dksX4_isSign_1 4 rfl rfl)
theorem dX4_isSign_29 : decode cX4_isSign 29 = .ok (.ireturn, 1) := dk_172 (dk_at dksX4_isSign_1 5 rfl rfl)
abbrev cX4_and : ByteArray := prog_9_method_19_code
def yX4_and : MethodName := ⟨RX4, "and", "(I)LWingTrams$Form;"⟩
def dkwX4_and_1 : List UInt8 := [16, 38, 42, 27, 182, 0, 168, 182, 0, 149, 167, 255, 236, 44, 182, 0, 153, 176]
abbrev dktX4_and_1 : List UInt8 := dkwX4_and_1 ++ []
def dkwX4_and_0 : List UInt8 := [187, 0, 137, 89, 42, 27, 182, 0, 168, 183, 0, 142, 77, 42, 18, 170, 182, 0, 172, 153, 0, 17, 44]
abbrev dktX4_and_0 : List UInt8 := dkwX4_and_0 ++ dktX4_and_1
theorem dksX4_and_0 : cX4_and.data.toList.drop 0 = dktX4_and_0 := by decide +kernel
theorem dksX4_and_1 : cX4_and.data.toList.drop 23 = dktX4_and_1 := dk_seg dksX4_and_0 23 rfl rfl
theorem dX4_and_0 : decode cX4_and 0 = .ok (.new 137, 3) := dk_187 0 137 (dk_at dksX4_and_0 0 rfl rfl)
theorem dX4_and_3 : decode cX4_and 3 = .ok (.dup, 1) := dk_89 (dk_at dksX4_and_0 3 rfl rfl)
theorem dX4_and_4 : decode cX4_and 4 = .ok (.aload_n 0, 1) := dk_42 (dk_at dksX4_and_0 4 rfl rfl)
theorem dX4_and_5 : decode cX4_and 5 = .ok (.iload_n 1, 1) := dk_27 (dk_at dksX4_and_0 5 rfl rfl)
theorem dX4_and_6 : decode cX4_and 6 = .ok (.invokevirtual 168, 3) := dk_182 0 168 (dk_at dksX4_and_0 6 rfl rfl)
theorem dX4_and_9 : decode cX4_and 9 = .ok (.invokespecial 142, 3) := dk_183 0 142 (dk_at dksX4_and_0 9 rfl rfl)
theorem dX4_and_12 : decode cX4_and 12 = .ok (.astore_n 2, 1) := dk_77 (dk_at dksX4_and_0 12 rfl rfl)
theorem dX4_and_13 : decode cX4_and 13 = .ok (.aload_n 0, 1) := dk_42 (dk_at dksX4_and_0 13 rfl rfl)
theorem dX4_and_14 : decode cX4_and 14 = .ok (.ldc 170, 2) := dk_18 170 (dk_at dksX4_and_0 14 rfl rfl)
theorem dX4_and_16 : decode cX4_and 16 = .ok (.invokevirtual 172, 3) := dk_182 0 172 (dk_at dksX4_and_0 16 rfl rfl)
theorem dX4_and_19 : decode cX4_and 19 = .ok (.ifCond .eq 17, 3) := dk_153 0 17 (dk_at dksX4_and_0 19 rfl rfl)
theorem dX4_and_22 : decode cX4_and 22 = .ok (.aload_n 2, 1) := dk_44 (dk_at dksX4_and_0 22 rfl rfl)
theorem dX4_and_23 : decode cX4_and 23 = .ok (.bipush 38, 2) := dk_16 38 (dk_at dksX4_and_1 0 rfl rfl)
theorem dX4_and_25 : decode cX4_and 25 = .ok (.aload_n 0, 1) := dk_42 (dk_at dksX4_and_1 2 rfl rfl)
theorem dX4_and_26 : decode cX4_and 26 = .ok (.iload_n 1, 1) := dk_27 (dk_at dksX4_and_1 3 rfl rfl)
theorem dX4_and_27 : decode cX4_and 27 = .ok (.invokevirtual 168, 3) := dk_182 0 168 (dk_at dksX4_and_1 4 rfl rfl)
theorem dX4_and_30 : decode cX4_and 30 = .ok (.invokevirtual 149, 3) := dk_182 0 149 (dk_at dksX4_and_1 7 rfl rfl)
theorem dX4_and_33 : decode cX4_and 33 = .ok (.goto (-20), 3) := dk_167 255 236 (dk_at dksX4_and_1 10 rfl rfl)
theorem dX4_and_36 : decode cX4_and 36 = .ok (.aload_n 2, 1) := dk_44 (dk_at dksX4_and_1 13 rfl rfl)
theorem dX4_and_37 : decode cX4_and 37 = .ok (.invokevirtual 153, 3) := dk_182 0 153 (dk_at dksX4_and_1 14 rfl rfl)
theorem dX4_and_40 : decode cX4_and 40 = .ok (.areturn, 1) := dk_176 (dk_at dksX4_and_1 17 rfl rfl)
abbrev cX4_not : ByteArray := prog_9_method_18_code
def yX4_not : MethodName := ⟨RX4, "not", "(I)LWingTrams$Form;"⟩
def dkwX4_not_5 : List UInt8 := [167, 255, 236, 25, 4, 176]
abbrev dktX4_not_5 : List UInt8 := dkwX4_not_5 ++ []
def dkwX4_not_4 : List UInt8 := [54, 5, 21, 5, 28, 162, 0, 20, 187, 0, 165, 89, 25, 4, 183, 0, 167, 58, 4, 132, 5, 1]
abbrev dktX4_not_4 : List UInt8 := dkwX4_not_4 ++ dktX4_not_5
def dkwX4_not_3 : List UInt8 := [182, 0, 145, 54, 4, 45, 21, 4, 42, 27, 182, 0, 162, 182, 0, 149, 45, 182, 0, 153, 58, 4, 3]
abbrev dktX4_not_3 : List UInt8 := dkwX4_not_3 ++ dktX4_not_4
def dkwX4_not_2 : List UInt8 := [183, 0, 142, 78, 42, 16, 60, 182, 0, 112, 154, 0, 12, 42, 16, 61, 182, 0, 112, 153, 0, 20, 42]
abbrev dktX4_not_2 : List UInt8 := dkwX4_not_2 ++ dktX4_not_3
def dkwX4_not_1 : List UInt8 := [182, 0, 94, 132, 2, 1, 42, 182, 0, 86, 167, 255, 224, 187, 0, 137, 89, 42, 27, 182, 0, 162]
abbrev dktX4_not_1 : List UInt8 := dkwX4_not_1 ++ dktX4_not_2
def dkwX4_not_0 : List UInt8 := [3, 61, 42, 18, 160, 182, 0, 82, 153, 0, 29, 42, 28, 16, 6, 162, 0, 7, 4, 167, 0, 4, 3, 5]
abbrev dktX4_not_0 : List UInt8 := dkwX4_not_0 ++ dktX4_not_1
theorem dksX4_not_0 : cX4_not.data.toList.drop 0 = dktX4_not_0 := by decide +kernel
theorem dksX4_not_1 : cX4_not.data.toList.drop 24 = dktX4_not_1 := dk_seg dksX4_not_0 24 rfl rfl
theorem dksX4_not_2 : cX4_not.data.toList.drop 46 = dktX4_not_2 := dk_seg dksX4_not_1 22 rfl rfl
theorem dksX4_not_3 : cX4_not.data.toList.drop 69 = dktX4_not_3 := dk_seg dksX4_not_2 23 rfl rfl
theorem dksX4_not_4 : cX4_not.data.toList.drop 92 = dktX4_not_4 := dk_seg dksX4_not_3 23 rfl rfl
theorem dksX4_not_5 : cX4_not.data.toList.drop 114 = dktX4_not_5 := dk_seg dksX4_not_4 22 rfl rfl
theorem dX4_not_0 : decode cX4_not 0 = .ok (.iconst 0, 1) := dk_3 (dk_at dksX4_not_0 0 rfl rfl)
theorem dX4_not_1 : decode cX4_not 1 = .ok (.istore_n 2, 1) := dk_61 (dk_at dksX4_not_0 1 rfl rfl)
theorem dX4_not_2 : decode cX4_not 2 = .ok (.aload_n 0, 1) := dk_42 (dk_at dksX4_not_0 2 rfl rfl)
theorem dX4_not_3 : decode cX4_not 3 = .ok (.ldc 160, 2) := dk_18 160 (dk_at dksX4_not_0 3 rfl rfl)
theorem dX4_not_5 : decode cX4_not 5 = .ok (.invokevirtual 82, 3) := dk_182 0 82 (dk_at dksX4_not_0 5 rfl rfl)
theorem dX4_not_8 : decode cX4_not 8 = .ok (.ifCond .eq 29, 3) := dk_153 0 29 (dk_at dksX4_not_0 8 rfl rfl)
theorem dX4_not_11 : decode cX4_not 11 = .ok (.aload_n 0, 1) := dk_42 (dk_at dksX4_not_0 11 rfl rfl)
theorem dX4_not_12 : decode cX4_not 12 = .ok (.iload_n 2, 1) := dk_28 (dk_at dksX4_not_0 12 rfl rfl)
theorem dX4_not_13 : decode cX4_not 13 = .ok (.bipush 6, 2) := dk_16 6 (dk_at dksX4_not_0 13 rfl rfl)
theorem dX4_not_15 : decode cX4_not 15 = .ok (.if_icmp .ge 7, 3) := dk_162 0 7 (dk_at dksX4_not_0 15 rfl rfl)
theorem dX4_not_18 : decode cX4_not 18 = .ok (.iconst 1, 1) := dk_4 (dk_at dksX4_not_0 18 rfl rfl)
theorem dX4_not_19 : decode cX4_not 19 = .ok (.goto 4, 3) := dk_167 0 4 (dk_at dksX4_not_0 19 rfl rfl)
theorem dX4_not_22 : decode cX4_not 22 = .ok (.iconst 0, 1) := dk_3 (dk_at dksX4_not_0 22 rfl rfl)
theorem dX4_not_23 : decode cX4_not 23 = .ok (.iconst 2, 1) := dk_5 (dk_at dksX4_not_0 23 rfl rfl)
theorem dX4_not_24 : decode cX4_not 24 = .ok (.invokevirtual 94, 3) := dk_182 0 94 (dk_at dksX4_not_1 0 rfl rfl)
theorem dX4_not_27 : decode cX4_not 27 = .ok (.iinc 2 1, 3) := dk_132 2 1 (dk_at dksX4_not_1 3 rfl rfl)
theorem dX4_not_30 : decode cX4_not 30 = .ok (.aload_n 0, 1) := dk_42 (dk_at dksX4_not_1 6 rfl rfl)
theorem dX4_not_31 : decode cX4_not 31 = .ok (.invokevirtual 86, 3) := dk_182 0 86 (dk_at dksX4_not_1 7 rfl rfl)
theorem dX4_not_34 : decode cX4_not 34 = .ok (.goto (-32), 3) := dk_167 255 224 (dk_at dksX4_not_1 10 rfl rfl)
theorem dX4_not_37 : decode cX4_not 37 = .ok (.new 137, 3) := dk_187 0 137 (dk_at dksX4_not_1 13 rfl rfl)
theorem dX4_not_40 : decode cX4_not 40 = .ok (.dup, 1) := dk_89 (dk_at dksX4_not_1 16 rfl rfl)
theorem dX4_not_41 : decode cX4_not 41 = .ok (.aload_n 0, 1) := dk_42 (dk_at dksX4_not_1 17 rfl rfl)
theorem dX4_not_42 : decode cX4_not 42 = .ok (.iload_n 1, 1) := dk_27 (dk_at dksX4_not_1 18 rfl rfl)
theorem dX4_not_43 : decode cX4_not 43 = .ok (.invokevirtual 162, 3) := dk_182 0 162 (dk_at dksX4_not_1 19 rfl rfl)
theorem dX4_not_46 : decode cX4_not 46 = .ok (.invokespecial 142, 3) := dk_183 0 142 (dk_at dksX4_not_2 0 rfl rfl)
theorem dX4_not_49 : decode cX4_not 49 = .ok (.astore_n 3, 1) := dk_78 (dk_at dksX4_not_2 3 rfl rfl)
theorem dX4_not_50 : decode cX4_not 50 = .ok (.aload_n 0, 1) := dk_42 (dk_at dksX4_not_2 4 rfl rfl)
theorem dX4_not_51 : decode cX4_not 51 = .ok (.bipush 60, 2) := dk_16 60 (dk_at dksX4_not_2 5 rfl rfl)
theorem dX4_not_53 : decode cX4_not 53 = .ok (.invokevirtual 112, 3) := dk_182 0 112 (dk_at dksX4_not_2 7 rfl rfl)
theorem dX4_not_56 : decode cX4_not 56 = .ok (.ifCond .ne 12, 3) := dk_154 0 12 (dk_at dksX4_not_2 10 rfl rfl)
theorem dX4_not_59 : decode cX4_not 59 = .ok (.aload_n 0, 1) := dk_42 (dk_at dksX4_not_2 13 rfl rfl)
theorem dX4_not_60 : decode cX4_not 60 = .ok (.bipush 61, 2) := dk_16 61 (dk_at dksX4_not_2 14 rfl rfl)
theorem dX4_not_62 : decode cX4_not 62 = .ok (.invokevirtual 112, 3) := dk_182 0 112 (dk_at dksX4_not_2 16 rfl rfl)
theorem dX4_not_65 : decode cX4_not 65 = .ok (.ifCond .eq 20, 3) := dk_153 0 20 (dk_at dksX4_not_2 19 rfl rfl)
theorem dX4_not_68 : decode cX4_not 68 = .ok (.aload_n 0, 1) := dk_42 (dk_at dksX4_not_2 22 rfl rfl)
theorem dX4_not_69 : decode cX4_not 69 = .ok (.invokevirtual 145, 3) := dk_182 0 145 (dk_at dksX4_not_3 0 rfl rfl)
theorem dX4_not_72 : decode cX4_not 72 = .ok (.istore 4, 2) := dk_54 4 (dk_at dksX4_not_3 3 rfl rfl)
theorem dX4_not_74 : decode cX4_not 74 = .ok (.aload_n 3, 1) := dk_45 (dk_at dksX4_not_3 5 rfl rfl)
theorem dX4_not_75 : decode cX4_not 75 = .ok (.iload 4, 2) := dk_21 4 (dk_at dksX4_not_3 6 rfl rfl)
theorem dX4_not_77 : decode cX4_not 77 = .ok (.aload_n 0, 1) := dk_42 (dk_at dksX4_not_3 8 rfl rfl)
theorem dX4_not_78 : decode cX4_not 78 = .ok (.iload_n 1, 1) := dk_27 (dk_at dksX4_not_3 9 rfl rfl)
theorem dX4_not_79 : decode cX4_not 79 = .ok (.invokevirtual 162, 3) := dk_182 0 162 (dk_at dksX4_not_3 10 rfl rfl)
theorem dX4_not_82 : decode cX4_not 82 = .ok (.invokevirtual 149, 3) := dk_182 0 149 (dk_at dksX4_not_3 13 rfl rfl)
theorem dX4_not_85 : decode cX4_not 85 = .ok (.aload_n 3, 1) := dk_45 (dk_at dksX4_not_3 16 rfl rfl)
theorem dX4_not_86 : decode cX4_not 86 = .ok (.invokevirtual 153, 3) := dk_182 0 153 (dk_at dksX4_not_3 17 rfl rfl)
theorem dX4_not_89 : decode cX4_not 89 = .ok (.astore 4, 2) := dk_58 4 (dk_at dksX4_not_3 20 rfl rfl)
theorem dX4_not_91 : decode cX4_not 91 = .ok (.iconst 0, 1) := dk_3 (dk_at dksX4_not_3 22 rfl rfl)
theorem dX4_not_92 : decode cX4_not 92 = .ok (.istore 5, 2) := dk_54 5 (dk_at dksX4_not_4 0 rfl rfl)
theorem dX4_not_94 : decode cX4_not 94 = .ok (.iload 5, 2) := dk_21 5 (dk_at dksX4_not_4 2 rfl rfl)
theorem dX4_not_96 : decode cX4_not 96 = .ok (.iload_n 2, 1) := dk_28 (dk_at dksX4_not_4 4 rfl rfl)
theorem dX4_not_97 : decode cX4_not 97 = .ok (.if_icmp .ge 20, 3) := dk_162 0 20 (dk_at dksX4_not_4 5 rfl rfl)
theorem dX4_not_100 : decode cX4_not 100 = .ok (.new 165, 3) := dk_187 0 165 (dk_at dksX4_not_4 8 rfl rfl)
theorem dX4_not_103 : decode cX4_not 103 = .ok (.dup, 1) := dk_89 (dk_at dksX4_not_4 11 rfl rfl)
theorem dX4_not_104 : decode cX4_not 104 = .ok (.aload 4, 2) := dk_25 4 (dk_at dksX4_not_4 12 rfl rfl)
theorem dX4_not_106 : decode cX4_not 106 = .ok (.invokespecial 167, 3) := dk_183 0 167 (dk_at dksX4_not_4 14 rfl rfl)
theorem dX4_not_109 : decode cX4_not 109 = .ok (.astore 4, 2) := dk_58 4 (dk_at dksX4_not_4 17 rfl rfl)
theorem dX4_not_111 : decode cX4_not 111 = .ok (.iinc 5 1, 3) := dk_132 5 1 (dk_at dksX4_not_4 19 rfl rfl)
theorem dX4_not_114 : decode cX4_not 114 = .ok (.goto (-20), 3) := dk_167 255 236 (dk_at dksX4_not_5 0 rfl rfl)
theorem dX4_not_117 : decode cX4_not 117 = .ok (.aload 4, 2) := dk_25 4 (dk_at dksX4_not_5 3 rfl rfl)
theorem dX4_not_119 : decode cX4_not 119 = .ok (.areturn, 1) := dk_176 (dk_at dksX4_not_5 5 rfl rfl)
abbrev cX4_sum : ByteArray := prog_9_method_17_code
def yX4_sum : MethodName := ⟨RX4, "sum", "(I)LWingTrams$Form;"⟩
def dkwX4_sum_2 : List UInt8 := [167, 255, 223, 44, 182, 0, 153, 176]
abbrev dktX4_sum_2 : List UInt8 := dkwX4_sum_2 ++ []
def dkwX4_sum_1 : List UInt8 := [16, 45, 182, 0, 112, 153, 0, 21, 42, 182, 0, 145, 62, 44, 29, 42, 27, 182, 0, 157, 182, 0, 149]
abbrev dktX4_sum_1 : List UInt8 := dkwX4_sum_1 ++ dktX4_sum_2
def dkwX4_sum_0 : List UInt8 := [187, 0, 137, 89, 42, 27, 182, 0, 157, 183, 0, 142, 77, 42, 16, 43, 182, 0, 112, 154, 0, 12, 42]
abbrev dktX4_sum_0 : List UInt8 := dkwX4_sum_0 ++ dktX4_sum_1
theorem dksX4_sum_0 : cX4_sum.data.toList.drop 0 = dktX4_sum_0 := by decide +kernel
theorem dksX4_sum_1 : cX4_sum.data.toList.drop 23 = dktX4_sum_1 := dk_seg dksX4_sum_0 23 rfl rfl
theorem dksX4_sum_2 : cX4_sum.data.toList.drop 46 = dktX4_sum_2 := dk_seg dksX4_sum_1 23 rfl rfl
theorem dX4_sum_0 : decode cX4_sum 0 = .ok (.new 137, 3) := dk_187 0 137 (dk_at dksX4_sum_0 0 rfl rfl)
theorem dX4_sum_3 : decode cX4_sum 3 = .ok (.dup, 1) := dk_89 (dk_at dksX4_sum_0 3 rfl rfl)
theorem dX4_sum_4 : decode cX4_sum 4 = .ok (.aload_n 0, 1) := dk_42 (dk_at dksX4_sum_0 4 rfl rfl)
theorem dX4_sum_5 : decode cX4_sum 5 = .ok (.iload_n 1, 1) := dk_27 (dk_at dksX4_sum_0 5 rfl rfl)
theorem dX4_sum_6 : decode cX4_sum 6 = .ok (.invokevirtual 157, 3) := dk_182 0 157 (dk_at dksX4_sum_0 6 rfl rfl)
theorem dX4_sum_9 : decode cX4_sum 9 = .ok (.invokespecial 142, 3) := dk_183 0 142 (dk_at dksX4_sum_0 9 rfl rfl)
theorem dX4_sum_12 : decode cX4_sum 12 = .ok (.astore_n 2, 1) := dk_77 (dk_at dksX4_sum_0 12 rfl rfl)
theorem dX4_sum_13 : decode cX4_sum 13 = .ok (.aload_n 0, 1) := dk_42 (dk_at dksX4_sum_0 13 rfl rfl)
theorem dX4_sum_14 : decode cX4_sum 14 = .ok (.bipush 43, 2) := dk_16 43 (dk_at dksX4_sum_0 14 rfl rfl)
theorem dX4_sum_16 : decode cX4_sum 16 = .ok (.invokevirtual 112, 3) := dk_182 0 112 (dk_at dksX4_sum_0 16 rfl rfl)
theorem dX4_sum_19 : decode cX4_sum 19 = .ok (.ifCond .ne 12, 3) := dk_154 0 12 (dk_at dksX4_sum_0 19 rfl rfl)
theorem dX4_sum_22 : decode cX4_sum 22 = .ok (.aload_n 0, 1) := dk_42 (dk_at dksX4_sum_0 22 rfl rfl)
theorem dX4_sum_23 : decode cX4_sum 23 = .ok (.bipush 45, 2) := dk_16 45 (dk_at dksX4_sum_1 0 rfl rfl)
theorem dX4_sum_25 : decode cX4_sum 25 = .ok (.invokevirtual 112, 3) := dk_182 0 112 (dk_at dksX4_sum_1 2 rfl rfl)
theorem dX4_sum_28 : decode cX4_sum 28 = .ok (.ifCond .eq 21, 3) := dk_153 0 21 (dk_at dksX4_sum_1 5 rfl rfl)
theorem dX4_sum_31 : decode cX4_sum 31 = .ok (.aload_n 0, 1) := dk_42 (dk_at dksX4_sum_1 8 rfl rfl)
theorem dX4_sum_32 : decode cX4_sum 32 = .ok (.invokevirtual 145, 3) := dk_182 0 145 (dk_at dksX4_sum_1 9 rfl rfl)
theorem dX4_sum_35 : decode cX4_sum 35 = .ok (.istore_n 3, 1) := dk_62 (dk_at dksX4_sum_1 12 rfl rfl)
theorem dX4_sum_36 : decode cX4_sum 36 = .ok (.aload_n 2, 1) := dk_44 (dk_at dksX4_sum_1 13 rfl rfl)
theorem dX4_sum_37 : decode cX4_sum 37 = .ok (.iload_n 3, 1) := dk_29 (dk_at dksX4_sum_1 14 rfl rfl)
theorem dX4_sum_38 : decode cX4_sum 38 = .ok (.aload_n 0, 1) := dk_42 (dk_at dksX4_sum_1 15 rfl rfl)
theorem dX4_sum_39 : decode cX4_sum 39 = .ok (.iload_n 1, 1) := dk_27 (dk_at dksX4_sum_1 16 rfl rfl)
theorem dX4_sum_40 : decode cX4_sum 40 = .ok (.invokevirtual 157, 3) := dk_182 0 157 (dk_at dksX4_sum_1 17 rfl rfl)
theorem dX4_sum_43 : decode cX4_sum 43 = .ok (.invokevirtual 149, 3) := dk_182 0 149 (dk_at dksX4_sum_1 20 rfl rfl)
theorem dX4_sum_46 : decode cX4_sum 46 = .ok (.goto (-33), 3) := dk_167 255 223 (dk_at dksX4_sum_2 0 rfl rfl)
theorem dX4_sum_49 : decode cX4_sum 49 = .ok (.aload_n 2, 1) := dk_44 (dk_at dksX4_sum_2 3 rfl rfl)
theorem dX4_sum_50 : decode cX4_sum 50 = .ok (.invokevirtual 153, 3) := dk_182 0 153 (dk_at dksX4_sum_2 4 rfl rfl)
theorem dX4_sum_53 : decode cX4_sum 53 = .ok (.areturn, 1) := dk_176 (dk_at dksX4_sum_2 7 rfl rfl)
abbrev cX4_product : ByteArray := prog_9_method_16_code
def yX4_product : MethodName := ⟨RX4, "product", "(I)LWingTrams$Form;"⟩
def dkwX4_product_2 : List UInt8 := [167, 255, 223, 44, 182, 0, 153, 176]
abbrev dktX4_product_2 : List UInt8 := dkwX4_product_2 ++ []
def dkwX4_product_1 : List UInt8 := [16, 47, 182, 0, 112, 153, 0, 21, 42, 182, 0, 145, 62, 44, 29, 42, 27, 182, 0, 139, 182, 0, 149]
abbrev dktX4_product_1 : List UInt8 := dkwX4_product_1 ++ dktX4_product_2
def dkwX4_product_0 : List UInt8 := [187, 0, 137, 89, 42, 27, 182, 0, 139, 183, 0, 142, 77, 42, 16, 42, 182, 0, 112, 154, 0, 12, 42]
abbrev dktX4_product_0 : List UInt8 := dkwX4_product_0 ++ dktX4_product_1
theorem dksX4_product_0 : cX4_product.data.toList.drop 0 = dktX4_product_0 := by decide +kernel
theorem dksX4_product_1 : cX4_product.data.toList.drop 23 = dktX4_product_1 := dk_seg dksX4_product_0 23 rfl rfl
theorem dksX4_product_2 : cX4_product.data.toList.drop 46 = dktX4_product_2 := dk_seg dksX4_product_1 23 rfl rfl
theorem dX4_product_0 : decode cX4_product 0 = .ok (.new 137, 3) := dk_187 0 137 (dk_at dksX4_product_0 0 rfl rfl)
theorem dX4_product_3 : decode cX4_product 3 = .ok (.dup, 1) := dk_89 (dk_at dksX4_product_0 3 rfl rfl)
theorem dX4_product_4 : decode cX4_product 4 = .ok (.aload_n 0, 1) := dk_42 (dk_at dksX4_product_0 4 rfl rfl)
theorem dX4_product_5 : decode cX4_product 5 = .ok (.iload_n 1, 1) := dk_27 (dk_at dksX4_product_0 5 rfl rfl)
theorem dX4_product_6 : decode cX4_product 6 = .ok (.invokevirtual 139, 3) := dk_182 0 139 (dk_at dksX4_product_0 6 rfl rfl)
theorem dX4_product_9 : decode cX4_product 9 = .ok (.invokespecial 142, 3) := dk_183 0 142 (dk_at dksX4_product_0 9 rfl rfl)
theorem dX4_product_12 : decode cX4_product 12 = .ok (.astore_n 2, 1) := dk_77 (dk_at dksX4_product_0 12 rfl rfl)
theorem dX4_product_13 : decode cX4_product 13 = .ok (.aload_n 0, 1) := dk_42 (dk_at dksX4_product_0 13 rfl rfl)
theorem dX4_product_14 : decode cX4_product 14 = .ok (.bipush 42, 2) := dk_16 42 (dk_at dksX4_product_0 14 rfl rfl)
theorem dX4_product_16 : decode cX4_product 16 = .ok (.invokevirtual 112, 3) := dk_182 0 112 (dk_at dksX4_product_0 16 rfl rfl)
theorem dX4_product_19 : decode cX4_product 19 = .ok (.ifCond .ne 12, 3) := dk_154 0 12 (dk_at dksX4_product_0 19 rfl rfl)
theorem dX4_product_22 : decode cX4_product 22 = .ok (.aload_n 0, 1) := dk_42 (dk_at dksX4_product_0 22 rfl rfl)
theorem dX4_product_23 : decode cX4_product 23 = .ok (.bipush 47, 2) := dk_16 47 (dk_at dksX4_product_1 0 rfl rfl)
theorem dX4_product_25 : decode cX4_product 25 = .ok (.invokevirtual 112, 3) := dk_182 0 112 (dk_at dksX4_product_1 2 rfl rfl)
theorem dX4_product_28 : decode cX4_product 28 = .ok (.ifCond .eq 21, 3) := dk_153 0 21 (dk_at dksX4_product_1 5 rfl rfl)
theorem dX4_product_31 : decode cX4_product 31 = .ok (.aload_n 0, 1) := dk_42 (dk_at dksX4_product_1 8 rfl rfl)
theorem dX4_product_32 : decode cX4_product 32 = .ok (.invokevirtual 145, 3) := dk_182 0 145 (dk_at dksX4_product_1 9 rfl rfl)
theorem dX4_product_35 : decode cX4_product 35 = .ok (.istore_n 3, 1) := dk_62 (dk_at dksX4_product_1 12 rfl rfl)
theorem dX4_product_36 : decode cX4_product 36 = .ok (.aload_n 2, 1) := dk_44 (dk_at dksX4_product_1 13 rfl rfl)
theorem dX4_product_37 : decode cX4_product 37 = .ok (.iload_n 3, 1) := dk_29 (dk_at dksX4_product_1 14 rfl rfl)
theorem dX4_product_38 : decode cX4_product 38 = .ok (.aload_n 0, 1) := dk_42 (dk_at dksX4_product_1 15 rfl rfl)
theorem dX4_product_39 : decode cX4_product 39 = .ok (.iload_n 1, 1) := dk_27 (dk_at dksX4_product_1 16 rfl rfl)
theorem dX4_product_40 : decode cX4_product 40 = .ok (.invokevirtual 139, 3) := dk_182 0 139 (dk_at dksX4_product_1 17 rfl rfl)
theorem dX4_product_43 : decode cX4_product 43 = .ok (.invokevirtual 149, 3) := dk_182 0 149 (dk_at dksX4_product_1 20 rfl rfl)
theorem dX4_product_46 : decode cX4_product 46 = .ok (.goto (-33), 3) := dk_167 255 223 (dk_at dksX4_product_2 0 rfl rfl)
theorem dX4_product_49 : decode cX4_product 49 = .ok (.aload_n 2, 1) := dk_44 (dk_at dksX4_product_2 3 rfl rfl)
theorem dX4_product_50 : decode cX4_product 50 = .ok (.invokevirtual 153, 3) := dk_182 0 153 (dk_at dksX4_product_2 4 rfl rfl)
theorem dX4_product_53 : decode cX4_product 53 = .ok (.areturn, 1) := dk_176 (dk_at dksX4_product_2 7 rfl rfl)
abbrev cX4_part : ByteArray := prog_9_method_14_code
def yX4_part : MethodName := ⟨RX4, "part", "(I)LWingTrams$Form;"⟩
def dkwX4_part_8 : List UInt8 := [6, 182, 0, 94, 42, 182, 0, 86, 187, 0, 134, 89, 28, 183, 0, 136, 176]
abbrev dktX4_part_8 : List UInt8 := dkwX4_part_8 ++ []
def dkwX4_part_7 : List UInt8 := [182, 0, 82, 153, 0, 8, 16, 6, 167, 0, 4, 2, 61, 42, 28, 2, 159, 0, 7, 4, 167, 0, 4, 3]
abbrev dktX4_part_7 : List UInt8 := dkwX4_part_7 ++ dktX4_part_8
def dkwX4_part_6 : List UInt8 := [153, 0, 7, 7, 167, 0, 31, 42, 18, 130, 182, 0, 82, 153, 0, 7, 8, 167, 0, 18, 42, 18, 132]
abbrev dktX4_part_6 : List UInt8 := dkwX4_part_6 ++ dktX4_part_7
def dkwX4_part_5 : List UInt8 := [167, 0, 57, 42, 18, 126, 182, 0, 82, 153, 0, 7, 6, 167, 0, 44, 42, 18, 128, 182, 0, 82]
abbrev dktX4_part_5 : List UInt8 := dkwX4_part_5 ++ dktX4_part_6
def dkwX4_part_4 : List UInt8 := [18, 122, 182, 0, 82, 153, 0, 7, 4, 167, 0, 70, 42, 18, 124, 182, 0, 82, 153, 0, 7, 5]
abbrev dktX4_part_4 : List UInt8 := dkwX4_part_4 ++ dktX4_part_5
def dkwX4_part_3 : List UInt8 := [4, 167, 0, 4, 3, 4, 182, 0, 94, 42, 18, 120, 182, 0, 82, 153, 0, 7, 3, 167, 0, 83, 42]
abbrev dktX4_part_3 : List UInt8 := dkwX4_part_3 ++ dktX4_part_4
def dkwX4_part_2 : List UInt8 := [16, 41, 182, 0, 112, 4, 182, 0, 94, 42, 182, 0, 86, 44, 176, 42, 42, 180, 0, 44, 4, 160, 0, 7]
abbrev dktX4_part_2 : List UInt8 := dkwX4_part_2 ++ dktX4_part_3
def dkwX4_part_1 : List UInt8 := [42, 16, 40, 182, 0, 112, 153, 0, 32, 42, 182, 0, 86, 42, 27, 4, 96, 182, 0, 116, 77, 42, 42]
abbrev dktX4_part_1 : List UInt8 := dkwX4_part_1 ++ dktX4_part_2
def dkwX4_part_0 : List UInt8 := [42, 180, 0, 44, 5, 160, 0, 19, 187, 0, 107, 89, 42, 3, 17, 39, 15, 182, 0, 109, 183, 0, 111, 176]
abbrev dktX4_part_0 : List UInt8 := dkwX4_part_0 ++ dktX4_part_1
theorem dksX4_part_0 : cX4_part.data.toList.drop 0 = dktX4_part_0 := by decide +kernel
theorem dksX4_part_1 : cX4_part.data.toList.drop 24 = dktX4_part_1 := dk_seg dksX4_part_0 24 rfl rfl
theorem dksX4_part_2 : cX4_part.data.toList.drop 47 = dktX4_part_2 := dk_seg dksX4_part_1 23 rfl rfl
theorem dksX4_part_3 : cX4_part.data.toList.drop 71 = dktX4_part_3 := dk_seg dksX4_part_2 24 rfl rfl
theorem dksX4_part_4 : cX4_part.data.toList.drop 94 = dktX4_part_4 := dk_seg dksX4_part_3 23 rfl rfl
theorem dksX4_part_5 : cX4_part.data.toList.drop 116 = dktX4_part_5 := dk_seg dksX4_part_4 22 rfl rfl
theorem dksX4_part_6 : cX4_part.data.toList.drop 138 = dktX4_part_6 := dk_seg dksX4_part_5 22 rfl rfl
theorem dksX4_part_7 : cX4_part.data.toList.drop 161 = dktX4_part_7 := dk_seg dksX4_part_6 23 rfl rfl
theorem dksX4_part_8 : cX4_part.data.toList.drop 185 = dktX4_part_8 := dk_seg dksX4_part_7 24 rfl rfl
theorem dX4_part_0 : decode cX4_part 0 = .ok (.aload_n 0, 1) := dk_42 (dk_at dksX4_part_0 0 rfl rfl)
theorem dX4_part_1 : decode cX4_part 1 = .ok (.getfield 44, 3) := dk_180 0 44 (dk_at dksX4_part_0 1 rfl rfl)
theorem dX4_part_4 : decode cX4_part 4 = .ok (.iconst 2, 1) := dk_5 (dk_at dksX4_part_0 4 rfl rfl)
theorem dX4_part_5 : decode cX4_part 5 = .ok (.if_icmp .ne 19, 3) := dk_160 0 19 (dk_at dksX4_part_0 5 rfl rfl)
theorem dX4_part_8 : decode cX4_part 8 = .ok (.new 107, 3) := dk_187 0 107 (dk_at dksX4_part_0 8 rfl rfl)
theorem dX4_part_11 : decode cX4_part 11 = .ok (.dup, 1) := dk_89 (dk_at dksX4_part_0 11 rfl rfl)
theorem dX4_part_12 : decode cX4_part 12 = .ok (.aload_n 0, 1) := dk_42 (dk_at dksX4_part_0 12 rfl rfl)
theorem dX4_part_13 : decode cX4_part 13 = .ok (.iconst 0, 1) := dk_3 (dk_at dksX4_part_0 13 rfl rfl)
theorem dX4_part_14 : decode cX4_part 14 = .ok (.sipush 9999, 3) := dk_17 39 15 (dk_at dksX4_part_0 14 rfl rfl)
theorem dX4_part_17 : decode cX4_part 17 = .ok (.invokevirtual 109, 3) := dk_182 0 109 (dk_at dksX4_part_0 17 rfl rfl)
theorem dX4_part_20 : decode cX4_part 20 = .ok (.invokespecial 111, 3) := dk_183 0 111 (dk_at dksX4_part_0 20 rfl rfl)
theorem dX4_part_23 : decode cX4_part 23 = .ok (.areturn, 1) := dk_176 (dk_at dksX4_part_0 23 rfl rfl)
theorem dX4_part_24 : decode cX4_part 24 = .ok (.aload_n 0, 1) := dk_42 (dk_at dksX4_part_1 0 rfl rfl)
theorem dX4_part_25 : decode cX4_part 25 = .ok (.bipush 40, 2) := dk_16 40 (dk_at dksX4_part_1 1 rfl rfl)
theorem dX4_part_27 : decode cX4_part 27 = .ok (.invokevirtual 112, 3) := dk_182 0 112 (dk_at dksX4_part_1 3 rfl rfl)
theorem dX4_part_30 : decode cX4_part 30 = .ok (.ifCond .eq 32, 3) := dk_153 0 32 (dk_at dksX4_part_1 6 rfl rfl)
theorem dX4_part_33 : decode cX4_part 33 = .ok (.aload_n 0, 1) := dk_42 (dk_at dksX4_part_1 9 rfl rfl)
theorem dX4_part_34 : decode cX4_part 34 = .ok (.invokevirtual 86, 3) := dk_182 0 86 (dk_at dksX4_part_1 10 rfl rfl)
theorem dX4_part_37 : decode cX4_part 37 = .ok (.aload_n 0, 1) := dk_42 (dk_at dksX4_part_1 13 rfl rfl)
theorem dX4_part_38 : decode cX4_part 38 = .ok (.iload_n 1, 1) := dk_27 (dk_at dksX4_part_1 14 rfl rfl)
theorem dX4_part_39 : decode cX4_part 39 = .ok (.iconst 1, 1) := dk_4 (dk_at dksX4_part_1 15 rfl rfl)
theorem dX4_part_40 : decode cX4_part 40 = .ok (.iadd, 1) := dk_96 (dk_at dksX4_part_1 16 rfl rfl)
theorem dX4_part_41 : decode cX4_part 41 = .ok (.invokevirtual 116, 3) := dk_182 0 116 (dk_at dksX4_part_1 17 rfl rfl)
theorem dX4_part_44 : decode cX4_part 44 = .ok (.astore_n 2, 1) := dk_77 (dk_at dksX4_part_1 20 rfl rfl)
theorem dX4_part_45 : decode cX4_part 45 = .ok (.aload_n 0, 1) := dk_42 (dk_at dksX4_part_1 21 rfl rfl)
theorem dX4_part_46 : decode cX4_part 46 = .ok (.aload_n 0, 1) := dk_42 (dk_at dksX4_part_1 22 rfl rfl)
theorem dX4_part_47 : decode cX4_part 47 = .ok (.bipush 41, 2) := dk_16 41 (dk_at dksX4_part_2 0 rfl rfl)
theorem dX4_part_49 : decode cX4_part 49 = .ok (.invokevirtual 112, 3) := dk_182 0 112 (dk_at dksX4_part_2 2 rfl rfl)
theorem dX4_part_52 : decode cX4_part 52 = .ok (.iconst 1, 1) := dk_4 (dk_at dksX4_part_2 5 rfl rfl)
theorem dX4_part_53 : decode cX4_part 53 = .ok (.invokevirtual 94, 3) := dk_182 0 94 (dk_at dksX4_part_2 6 rfl rfl)
theorem dX4_part_56 : decode cX4_part 56 = .ok (.aload_n 0, 1) := dk_42 (dk_at dksX4_part_2 9 rfl rfl)
theorem dX4_part_57 : decode cX4_part 57 = .ok (.invokevirtual 86, 3) := dk_182 0 86 (dk_at dksX4_part_2 10 rfl rfl)
theorem dX4_part_60 : decode cX4_part 60 = .ok (.aload_n 2, 1) := dk_44 (dk_at dksX4_part_2 13 rfl rfl)
theorem dX4_part_61 : decode cX4_part 61 = .ok (.areturn, 1) := dk_176 (dk_at dksX4_part_2 14 rfl rfl)
theorem dX4_part_62 : decode cX4_part 62 = .ok (.aload_n 0, 1) := dk_42 (dk_at dksX4_part_2 15 rfl rfl)
theorem dX4_part_63 : decode cX4_part 63 = .ok (.aload_n 0, 1) := dk_42 (dk_at dksX4_part_2 16 rfl rfl)
theorem dX4_part_64 : decode cX4_part 64 = .ok (.getfield 44, 3) := dk_180 0 44 (dk_at dksX4_part_2 17 rfl rfl)
theorem dX4_part_67 : decode cX4_part 67 = .ok (.iconst 1, 1) := dk_4 (dk_at dksX4_part_2 20 rfl rfl)
theorem dX4_part_68 : decode cX4_part 68 = .ok (.if_icmp .ne 7, 3) := dk_160 0 7 (dk_at dksX4_part_2 21 rfl rfl)
theorem dX4_part_71 : decode cX4_part 71 = .ok (.iconst 1, 1) := dk_4 (dk_at dksX4_part_3 0 rfl rfl)
theorem dX4_part_72 : decode cX4_part 72 = .ok (.goto 4, 3) := dk_167 0 4 (dk_at dksX4_part_3 1 rfl rfl)
theorem dX4_part_75 : decode cX4_part 75 = .ok (.iconst 0, 1) := dk_3 (dk_at dksX4_part_3 4 rfl rfl)
theorem dX4_part_76 : decode cX4_part 76 = .ok (.iconst 1, 1) := dk_4 (dk_at dksX4_part_3 5 rfl rfl)
theorem dX4_part_77 : decode cX4_part 77 = .ok (.invokevirtual 94, 3) := dk_182 0 94 (dk_at dksX4_part_3 6 rfl rfl)
theorem dX4_part_80 : decode cX4_part 80 = .ok (.aload_n 0, 1) := dk_42 (dk_at dksX4_part_3 9 rfl rfl)
theorem dX4_part_81 : decode cX4_part 81 = .ok (.ldc 120, 2) := dk_18 120 (dk_at dksX4_part_3 10 rfl rfl)
theorem dX4_part_83 : decode cX4_part 83 = .ok (.invokevirtual 82, 3) := dk_182 0 82 (dk_at dksX4_part_3 12 rfl rfl)
theorem dX4_part_86 : decode cX4_part 86 = .ok (.ifCond .eq 7, 3) := dk_153 0 7 (dk_at dksX4_part_3 15 rfl rfl)
theorem dX4_part_89 : decode cX4_part 89 = .ok (.iconst 0, 1) := dk_3 (dk_at dksX4_part_3 18 rfl rfl)
theorem dX4_part_90 : decode cX4_part 90 = .ok (.goto 83, 3) := dk_167 0 83 (dk_at dksX4_part_3 19 rfl rfl)
theorem dX4_part_93 : decode cX4_part 93 = .ok (.aload_n 0, 1) := dk_42 (dk_at dksX4_part_3 22 rfl rfl)
theorem dX4_part_94 : decode cX4_part 94 = .ok (.ldc 122, 2) := dk_18 122 (dk_at dksX4_part_4 0 rfl rfl)
theorem dX4_part_96 : decode cX4_part 96 = .ok (.invokevirtual 82, 3) := dk_182 0 82 (dk_at dksX4_part_4 2 rfl rfl)
theorem dX4_part_99 : decode cX4_part 99 = .ok (.ifCond .eq 7, 3) := dk_153 0 7 (dk_at dksX4_part_4 5 rfl rfl)
theorem dX4_part_102 : decode cX4_part 102 = .ok (.iconst 1, 1) := dk_4 (dk_at dksX4_part_4 8 rfl rfl)
theorem dX4_part_103 : decode cX4_part 103 = .ok (.goto 70, 3) := dk_167 0 70 (dk_at dksX4_part_4 9 rfl rfl)
theorem dX4_part_106 : decode cX4_part 106 = .ok (.aload_n 0, 1) := dk_42 (dk_at dksX4_part_4 12 rfl rfl)
theorem dX4_part_107 : decode cX4_part 107 = .ok (.ldc 124, 2) := dk_18 124 (dk_at dksX4_part_4 13 rfl rfl)
theorem dX4_part_109 : decode cX4_part 109 = .ok (.invokevirtual 82, 3) := dk_182 0 82 (dk_at dksX4_part_4 15 rfl rfl)
theorem dX4_part_112 : decode cX4_part 112 = .ok (.ifCond .eq 7, 3) := dk_153 0 7 (dk_at dksX4_part_4 18 rfl rfl)
theorem dX4_part_115 : decode cX4_part 115 = .ok (.iconst 2, 1) := dk_5 (dk_at dksX4_part_4 21 rfl rfl)
theorem dX4_part_116 : decode cX4_part 116 = .ok (.goto 57, 3) := dk_167 0 57 (dk_at dksX4_part_5 0 rfl rfl)
theorem dX4_part_119 : decode cX4_part 119 = .ok (.aload_n 0, 1) := dk_42 (dk_at dksX4_part_5 3 rfl rfl)
theorem dX4_part_120 : decode cX4_part 120 = .ok (.ldc 126, 2) := dk_18 126 (dk_at dksX4_part_5 4 rfl rfl)
theorem dX4_part_122 : decode cX4_part 122 = .ok (.invokevirtual 82, 3) := dk_182 0 82 (dk_at dksX4_part_5 6 rfl rfl)
theorem dX4_part_125 : decode cX4_part 125 = .ok (.ifCond .eq 7, 3) := dk_153 0 7 (dk_at dksX4_part_5 9 rfl rfl)
theorem dX4_part_128 : decode cX4_part 128 = .ok (.iconst 3, 1) := dk_6 (dk_at dksX4_part_5 12 rfl rfl)
theorem dX4_part_129 : decode cX4_part 129 = .ok (.goto 44, 3) := dk_167 0 44 (dk_at dksX4_part_5 13 rfl rfl)
theorem dX4_part_132 : decode cX4_part 132 = .ok (.aload_n 0, 1) := dk_42 (dk_at dksX4_part_5 16 rfl rfl)
theorem dX4_part_133 : decode cX4_part 133 = .ok (.ldc 128, 2) := dk_18 128 (dk_at dksX4_part_5 17 rfl rfl)
theorem dX4_part_135 : decode cX4_part 135 = .ok (.invokevirtual 82, 3) := dk_182 0 82 (dk_at dksX4_part_5 19 rfl rfl)
theorem dX4_part_138 : decode cX4_part 138 = .ok (.ifCond .eq 7, 3) := dk_153 0 7 (dk_at dksX4_part_6 0 rfl rfl)
theorem dX4_part_141 : decode cX4_part 141 = .ok (.iconst 4, 1) := dk_7 (dk_at dksX4_part_6 3 rfl rfl)
theorem dX4_part_142 : decode cX4_part 142 = .ok (.goto 31, 3) := dk_167 0 31 (dk_at dksX4_part_6 4 rfl rfl)
theorem dX4_part_145 : decode cX4_part 145 = .ok (.aload_n 0, 1) := dk_42 (dk_at dksX4_part_6 7 rfl rfl)
theorem dX4_part_146 : decode cX4_part 146 = .ok (.ldc 130, 2) := dk_18 130 (dk_at dksX4_part_6 8 rfl rfl)
theorem dX4_part_148 : decode cX4_part 148 = .ok (.invokevirtual 82, 3) := dk_182 0 82 (dk_at dksX4_part_6 10 rfl rfl)
theorem dX4_part_151 : decode cX4_part 151 = .ok (.ifCond .eq 7, 3) := dk_153 0 7 (dk_at dksX4_part_6 13 rfl rfl)
theorem dX4_part_154 : decode cX4_part 154 = .ok (.iconst 5, 1) := dk_8 (dk_at dksX4_part_6 16 rfl rfl)
theorem dX4_part_155 : decode cX4_part 155 = .ok (.goto 18, 3) := dk_167 0 18 (dk_at dksX4_part_6 17 rfl rfl)
theorem dX4_part_158 : decode cX4_part 158 = .ok (.aload_n 0, 1) := dk_42 (dk_at dksX4_part_6 20 rfl rfl)
theorem dX4_part_159 : decode cX4_part 159 = .ok (.ldc 132, 2) := dk_18 132 (dk_at dksX4_part_6 21 rfl rfl)
theorem dX4_part_161 : decode cX4_part 161 = .ok (.invokevirtual 82, 3) := dk_182 0 82 (dk_at dksX4_part_7 0 rfl rfl)
theorem dX4_part_164 : decode cX4_part 164 = .ok (.ifCond .eq 8, 3) := dk_153 0 8 (dk_at dksX4_part_7 3 rfl rfl)
theorem dX4_part_167 : decode cX4_part 167 = .ok (.bipush 6, 2) := dk_16 6 (dk_at dksX4_part_7 6 rfl rfl)
theorem dX4_part_169 : decode cX4_part 169 = .ok (.goto 4, 3) := dk_167 0 4 (dk_at dksX4_part_7 8 rfl rfl)
theorem dX4_part_172 : decode cX4_part 172 = .ok (.iconst (-1), 1) := dk_2 (dk_at dksX4_part_7 11 rfl rfl)
theorem dX4_part_173 : decode cX4_part 173 = .ok (.istore_n 2, 1) := dk_61 (dk_at dksX4_part_7 12 rfl rfl)
theorem dX4_part_174 : decode cX4_part 174 = .ok (.aload_n 0, 1) := dk_42 (dk_at dksX4_part_7 13 rfl rfl)
theorem dX4_part_175 : decode cX4_part 175 = .ok (.iload_n 2, 1) := dk_28 (dk_at dksX4_part_7 14 rfl rfl)
theorem dX4_part_176 : decode cX4_part 176 = .ok (.iconst (-1), 1) := dk_2 (dk_at dksX4_part_7 15 rfl rfl)
theorem dX4_part_177 : decode cX4_part 177 = .ok (.if_icmp .eq 7, 3) := dk_159 0 7 (dk_at dksX4_part_7 16 rfl rfl)
theorem dX4_part_180 : decode cX4_part 180 = .ok (.iconst 1, 1) := dk_4 (dk_at dksX4_part_7 19 rfl rfl)
theorem dX4_part_181 : decode cX4_part 181 = .ok (.goto 4, 3) := dk_167 0 4 (dk_at dksX4_part_7 20 rfl rfl)
theorem dX4_part_184 : decode cX4_part 184 = .ok (.iconst 0, 1) := dk_3 (dk_at dksX4_part_7 23 rfl rfl)
theorem dX4_part_185 : decode cX4_part 185 = .ok (.iconst 3, 1) := dk_6 (dk_at dksX4_part_8 0 rfl rfl)
theorem dX4_part_186 : decode cX4_part 186 = .ok (.invokevirtual 94, 3) := dk_182 0 94 (dk_at dksX4_part_8 1 rfl rfl)
theorem dX4_part_189 : decode cX4_part 189 = .ok (.aload_n 0, 1) := dk_42 (dk_at dksX4_part_8 4 rfl rfl)
theorem dX4_part_190 : decode cX4_part 190 = .ok (.invokevirtual 86, 3) := dk_182 0 86 (dk_at dksX4_part_8 5 rfl rfl)
theorem dX4_part_193 : decode cX4_part 193 = .ok (.new 134, 3) := dk_187 0 134 (dk_at dksX4_part_8 8 rfl rfl)
theorem dX4_part_196 : decode cX4_part 196 = .ok (.dup, 1) := dk_89 (dk_at dksX4_part_8 11 rfl rfl)
theorem dX4_part_197 : decode cX4_part 197 = .ok (.iload_n 2, 1) := dk_28 (dk_at dksX4_part_8 12 rfl rfl)
theorem dX4_part_198 : decode cX4_part 198 = .ok (.invokespecial 136, 3) := dk_183 0 136 (dk_at dksX4_part_8 13 rfl rfl)
theorem dX4_part_201 : decode cX4_part 201 = .ok (.areturn, 1) := dk_176 (dk_at dksX4_part_8 16 rfl rfl)
abbrev cX4_sign : ByteArray := prog_9_method_15_code
def yX4_sign : MethodName := ⟨RX4, "sign", "()C"⟩
def dkwX4_sign_0 : List UInt8 := [42, 180, 0, 3, 180, 0, 29, 42, 180, 0, 41, 51, 146, 60, 42, 182, 0, 86, 27, 172]
abbrev dktX4_sign_0 : List UInt8 := dkwX4_sign_0 ++ []
theorem dksX4_sign_0 : cX4_sign.data.toList.drop 0 = dktX4_sign_0 := by decide +kernel
theorem dX4_sign_0 : decode cX4_sign 0 = .ok (.aload_n 0, 1) := dk_42 (dk_at dksX4_sign_0 0 rfl rfl)
theorem dX4_sign_1 : decode cX4_sign 1 = .ok (.getfield 3, 3) := dk_180 0 3 (dk_at dksX4_sign_0 1 rfl rfl)
theorem dX4_sign_4 : decode cX4_sign 4 = .ok (.getfield 29, 3) := dk_180 0 29 (dk_at dksX4_sign_0 4 rfl rfl)
theorem dX4_sign_7 : decode cX4_sign 7 = .ok (.aload_n 0, 1) := dk_42 (dk_at dksX4_sign_0 7 rfl rfl)
theorem dX4_sign_8 : decode cX4_sign 8 = .ok (.getfield 41, 3) := dk_180 0 41 (dk_at dksX4_sign_0 8 rfl rfl)
theorem dX4_sign_11 : decode cX4_sign 11 = .ok (.baload, 1) := dk_51 (dk_at dksX4_sign_0 11 rfl rfl)
theorem dX4_sign_12 : decode cX4_sign 12 = .ok (.i2c, 1) := dk_146 (dk_at dksX4_sign_0 12 rfl rfl)
theorem dX4_sign_13 : decode cX4_sign 13 = .ok (.istore_n 1, 1) := dk_60 (dk_at dksX4_sign_0 13 rfl rfl)
theorem dX4_sign_14 : decode cX4_sign 14 = .ok (.aload_n 0, 1) := dk_42 (dk_at dksX4_sign_0 14 rfl rfl)
theorem dX4_sign_15 : decode cX4_sign 15 = .ok (.invokevirtual 86, 3) := dk_182 0 86 (dk_at dksX4_sign_0 15 rfl rfl)
theorem dX4_sign_18 : decode cX4_sign 18 = .ok (.iload_n 1, 1) := dk_27 (dk_at dksX4_sign_0 18 rfl rfl)
theorem dX4_sign_19 : decode cX4_sign 19 = .ok (.ireturn, 1) := dk_172 (dk_at dksX4_sign_0 19 rfl rfl)
abbrev cX4_passes : ByteArray := prog_9_method_8_code
def yX4_passes : MethodName := ⟨RX4, "passes", "(Ljava/lang/String;)Z"⟩
def dkwX4_passes_0 : List UInt8 := [42, 43, 182, 0, 82, 61, 28, 153, 0, 7, 42, 182, 0, 86, 28, 172]
abbrev dktX4_passes_0 : List UInt8 := dkwX4_passes_0 ++ []
theorem dksX4_passes_0 : cX4_passes.data.toList.drop 0 = dktX4_passes_0 := by decide +kernel
theorem dX4_passes_0 : decode cX4_passes 0 = .ok (.aload_n 0, 1) := dk_42 (dk_at dksX4_passes_0 0 rfl rfl)
theorem dX4_passes_1 : decode cX4_passes 1 = .ok (.aload_n 1, 1) := dk_43 (dk_at dksX4_passes_0 1 rfl rfl)
theorem dX4_passes_2 : decode cX4_passes 2 = .ok (.invokevirtual 82, 3) := dk_182 0 82 (dk_at dksX4_passes_0 2 rfl rfl)
theorem dX4_passes_5 : decode cX4_passes 5 = .ok (.istore_n 2, 1) := dk_61 (dk_at dksX4_passes_0 5 rfl rfl)
theorem dX4_passes_6 : decode cX4_passes 6 = .ok (.iload_n 2, 1) := dk_28 (dk_at dksX4_passes_0 6 rfl rfl)
theorem dX4_passes_7 : decode cX4_passes 7 = .ok (.ifCond .eq 7, 3) := dk_153 0 7 (dk_at dksX4_passes_0 7 rfl rfl)
theorem dX4_passes_10 : decode cX4_passes 10 = .ok (.aload_n 0, 1) := dk_42 (dk_at dksX4_passes_0 10 rfl rfl)
theorem dX4_passes_11 : decode cX4_passes 11 = .ok (.invokevirtual 86, 3) := dk_182 0 86 (dk_at dksX4_passes_0 11 rfl rfl)
theorem dX4_passes_14 : decode cX4_passes 14 = .ok (.iload_n 2, 1) := dk_28 (dk_at dksX4_passes_0 14 rfl rfl)
theorem dX4_passes_15 : decode cX4_passes 15 = .ok (.ireturn, 1) := dk_172 (dk_at dksX4_passes_0 15 rfl rfl)
theorem q121 : (Jvm.Cond.initialized "WingTrams$Reader") ∈ lw_all := lw_g (lw_at lw_m1 11 rfl) rfl
theorem q192 : (Jvm.Cond.fieldLinkNest "WingTrams$Reader" (179 : Nat) "WingTrams$City" "grain" "[I" "WingTrams") ∈ lw_tbl := lw_at lw_m1 82 rfl
theorem q196 : (Jvm.Cond.fieldLinkNest "WingTrams$Reader" (188 : Nat) "WingTrams$City" "minutes" "[[I" "WingTrams") ∈ lw_tbl := lw_at lw_m1 86 rfl
theorem q201 : (Jvm.Cond.fieldLinkNest "WingTrams$Reader" (192 : Nat) "WingTrams$City" "owls" "Ljava/util/List;" "WingTrams") ∈ lw_tbl := lw_at lw_m1 91 rfl
theorem q205 : (Jvm.Cond.fieldLinkNest "WingTrams$Reader" (220 : Nat) "WingTrams$City" "riders" "Ljava/util/List;" "WingTrams") ∈ lw_tbl := lw_at lw_m1 95 rfl
theorem q209 : (Jvm.Cond.fieldLinkNest "WingTrams$Reader" (254 : Nat) "WingTrams$City" "hunts" "Ljava/util/List;" "WingTrams") ∈ lw_tbl := lw_at lw_m1 99 rfl
theorem q213 : (Jvm.Cond.fieldLinkNest "WingTrams$Reader" (101 : Nat) "WingTrams$City" "roofs" "I" "WingTrams") ∈ lw_tbl := lw_at lw_m1 103 rfl
theorem q215 : (Jvm.Cond.fieldLinkNest "WingTrams$Reader" (182 : Nat) "WingTrams$City" "flights" "I" "WingTrams") ∈ lw_tbl := lw_at lw_m1 105 rfl
theorem q220 : (Jvm.Cond.fieldLinkNest "WingTrams$Reader" (250 : Nat) "WingTrams$City" "dawn" "I" "WingTrams") ∈ lw_tbl := lw_at lw_m1 110 rfl
theorem q253 : (Jvm.Cond.fieldLinkNest "WingTrams$Reader" (29 : Nat) "WingTrams" "tape" "[B" "WingTrams") ∈ lw_tbl := lw_at lw_m1 143 rfl
theorem q374 : (Jvm.Cond.selects "WingTrams$Reader" ({ cls := "java/lang/Object", name := "getClass", desc := "()Ljava/lang/Class;" } : Jvm.MethodName) ({ cls := "java/lang/Object", name := "getClass", desc := "()Ljava/lang/Class;" } : Jvm.MethodName)) ∈ lw_all := lw_g (lw_at lw_m2 24 rfl) rfl
theorem q828 : (Jvm.Cond.instantiable "WingTrams$Reader" (9 : Nat)) ∈ lw_all := lw_g (lw_at lw_m3 238 rfl) rfl
theorem q830 : (Jvm.Cond.instanceMethod ({ cls := "WingTrams$Reader", name := "<init>", desc := "(LWingTrams;I)V" } : Jvm.MethodName)) ∈ lw_all := lw_g (lw_at lw_m4 0 rfl) rfl
theorem q831 : (Jvm.Cond.code ({ cls := "WingTrams$Reader", name := "<init>", desc := "(LWingTrams;I)V" } : Jvm.MethodName) prog_9_method_1_code (3 : Nat) (Option.none : Option Jvm.ClassFile.FieldType)) ∈ lw_all := lw_g (lw_at lw_m4 1 rfl) rfl
theorem q832 : (Jvm.Cond.methodLink "WingTrams$Reader" (9 : Nat) ({ cls := "java/lang/Object", name := "<init>", desc := "()V" } : Jvm.MethodName)) ∈ lw_all := lw_g (lw_at lw_m4 2 rfl) rfl
theorem q833 : (Jvm.Cond.classLink "WingTrams$Reader" (15 : Nat) "WingTrams$City") ∈ lw_all := lw_g (lw_at lw_m4 3 rfl) rfl
theorem q834 : (Jvm.Cond.methodLinkNest "WingTrams$Reader" (17 : Nat) ({ cls := "WingTrams$City", name := "<init>", desc := "()V" } : Jvm.MethodName) "WingTrams") ∈ lw_tbl := lw_at lw_m4 4 rfl
theorem q835 : (Jvm.Cond.fieldLink "WingTrams$Reader" (22 : Nat) "WingTrams$Reader" "size" "I") ∈ lw_all := lw_g (lw_at lw_m4 5 rfl) rfl
theorem q836 : (Jvm.Cond.fieldLink "WingTrams$Reader" (18 : Nat) "WingTrams$Reader" "made" "LWingTrams$City;") ∈ lw_all := lw_g (lw_at lw_m4 6 rfl) rfl
theorem q837 : (Jvm.Cond.fieldLink "WingTrams$Reader" (26 : Nat) "WingTrams$Reader" "at" "I") ∈ lw_all := lw_g (lw_at lw_m4 7 rfl) rfl
theorem q838 : (Jvm.Cond.fieldLink "WingTrams$Reader" (44 : Nat) "WingTrams$Reader" "token" "I") ∈ lw_all := lw_g (lw_at lw_m4 8 rfl) rfl
theorem q839 : (Jvm.Cond.fieldLink "WingTrams$Reader" (41 : Nat) "WingTrams$Reader" "begins" "I") ∈ lw_all := lw_g (lw_at lw_m4 9 rfl) rfl
theorem q841 : (Jvm.Cond.fieldLink "WingTrams$Reader" (72 : Nat) "WingTrams$Reader" "ends" "I") ∈ lw_all := lw_g (lw_at lw_m4 11 rfl) rfl
theorem q842 : (Jvm.Cond.fieldLink "WingTrams$Reader" (54 : Nat) "WingTrams$Reader" "number" "I") ∈ lw_all := lw_g (lw_at lw_m4 12 rfl) rfl
theorem q843 : (Jvm.Cond.fieldLink "WingTrams$Reader" (246 : Nat) "WingTrams$Reader" "isDawn" "Z") ∈ lw_all := lw_g (lw_at lw_m4 13 rfl) rfl
theorem q844 : (Jvm.Cond.fieldLink "WingTrams$Reader" (3 : Nat) "WingTrams$Reader" "this$0" "LWingTrams;") ∈ lw_all := lw_g (lw_at lw_m4 14 rfl) rfl
theorem q845 : (Jvm.Cond.laysFinal "WingTrams$Reader" "WingTrams$Reader" "size" "I") ∈ lw_all := lw_g (lw_at lw_m4 15 rfl) rfl
theorem q846 : (Jvm.Cond.soleField "WingTrams$Reader" "size") ∈ lw_all := lw_g (lw_at lw_m4 16 rfl) rfl
theorem q847 : (Jvm.Cond.laysFinal "WingTrams$Reader" "WingTrams$Reader" "made" "LWingTrams$City;") ∈ lw_all := lw_g (lw_at lw_m4 17 rfl) rfl
theorem q848 : (Jvm.Cond.soleField "WingTrams$Reader" "made") ∈ lw_all := lw_g (lw_at lw_m4 18 rfl) rfl
theorem q849 : (Jvm.Cond.lays "WingTrams$Reader" "WingTrams$Reader" "at" "I") ∈ lw_all := lw_g (lw_at lw_m4 19 rfl) rfl
theorem q850 : (Jvm.Cond.soleField "WingTrams$Reader" "at") ∈ lw_all := lw_g (lw_at lw_m4 20 rfl) rfl
theorem q851 : (Jvm.Cond.lays "WingTrams$Reader" "WingTrams$Reader" "token" "I") ∈ lw_all := lw_g (lw_at lw_m4 21 rfl) rfl
theorem q852 : (Jvm.Cond.soleField "WingTrams$Reader" "token") ∈ lw_all := lw_g (lw_at lw_m4 22 rfl) rfl
theorem q853 : (Jvm.Cond.lays "WingTrams$Reader" "WingTrams$Reader" "begins" "I") ∈ lw_all := lw_g (lw_at lw_m4 23 rfl) rfl
theorem q854 : (Jvm.Cond.soleField "WingTrams$Reader" "begins") ∈ lw_all := lw_g (lw_at lw_m4 24 rfl) rfl
theorem q855 : (Jvm.Cond.lays "WingTrams$Reader" "WingTrams$Reader" "ends" "I") ∈ lw_all := lw_g (lw_at lw_m4 25 rfl) rfl
theorem q856 : (Jvm.Cond.soleField "WingTrams$Reader" "ends") ∈ lw_all := lw_g (lw_at lw_m4 26 rfl) rfl
theorem q857 : (Jvm.Cond.lays "WingTrams$Reader" "WingTrams$Reader" "number" "I") ∈ lw_all := lw_g (lw_at lw_m4 27 rfl) rfl
theorem q858 : (Jvm.Cond.soleField "WingTrams$Reader" "number") ∈ lw_all := lw_g (lw_at lw_m4 28 rfl) rfl
theorem q859 : (Jvm.Cond.lays "WingTrams$Reader" "WingTrams$Reader" "isDawn" "Z") ∈ lw_all := lw_g (lw_at lw_m4 29 rfl) rfl
theorem q860 : (Jvm.Cond.soleField "WingTrams$Reader" "isDawn") ∈ lw_all := lw_g (lw_at lw_m4 30 rfl) rfl
theorem q861 : (Jvm.Cond.laysFinal "WingTrams$Reader" "WingTrams$Reader" "this$0" "LWingTrams;") ∈ lw_all := lw_g (lw_at lw_m4 31 rfl) rfl
theorem q862 : (Jvm.Cond.soleField "WingTrams$Reader" "this$0") ∈ lw_all := lw_g (lw_at lw_m4 32 rfl) rfl
theorem q863 : (Jvm.Cond.superclass "WingTrams$Reader" "java/lang/Object") ∈ lw_all := lw_g (lw_at lw_m4 33 rfl) rfl
theorem q865 : (Jvm.Cond.instanceMethod ({ cls := "WingTrams$Reader", name := "read", desc := "()LWingTrams$City;" } : Jvm.MethodName)) ∈ lw_all := lw_g (lw_at lw_m4 35 rfl) rfl
theorem q866 : (Jvm.Cond.selects "WingTrams$Reader" ({ cls := "WingTrams$Reader", name := "read", desc := "()LWingTrams$City;" } : Jvm.MethodName) ({ cls := "WingTrams$Reader", name := "read", desc := "()LWingTrams$City;" } : Jvm.MethodName)) ∈ lw_all := lw_g (lw_at lw_m4 36 rfl) rfl
theorem q867 : (Jvm.Cond.code ({ cls := "WingTrams$Reader", name := "read", desc := "()LWingTrams$City;" } : Jvm.MethodName) prog_9_method_26_code (1 : Nat) (Option.some (Jvm.ClassFile.FieldType.object "WingTrams$City"))) ∈ lw_all := lw_g (lw_at lw_m4 37 rfl) rfl
theorem q868 : (Jvm.Cond.methodLink "WingTrams$Reader" (86 : Nat) ({ cls := "WingTrams$Reader", name := "next", desc := "()V" } : Jvm.MethodName)) ∈ lw_all := lw_g (lw_at lw_m4 38 rfl) rfl
theorem q869 : (Jvm.Cond.privateMethod ({ cls := "WingTrams$Reader", name := "next", desc := "()V" } : Jvm.MethodName)) ∈ lw_tbl := lw_at lw_m4 39 rfl
theorem q870 : (Jvm.Cond.instanceMethod ({ cls := "WingTrams$Reader", name := "next", desc := "()V" } : Jvm.MethodName)) ∈ lw_all := lw_g (lw_at lw_m4 40 rfl) rfl
theorem q871 : (Jvm.Cond.code ({ cls := "WingTrams$Reader", name := "next", desc := "()V" } : Jvm.MethodName) prog_9_method_5_code (1 : Nat) (Option.none : Option Jvm.ClassFile.FieldType)) ∈ lw_all := lw_g (lw_at lw_m4 41 rfl) rfl
theorem q872 : (Jvm.Cond.methodLink "WingTrams$Reader" (33 : Nat) ({ cls := "WingTrams$Reader", name := "here", desc := "()I" } : Jvm.MethodName)) ∈ lw_all := lw_g (lw_at lw_m4 42 rfl) rfl
theorem q873 : (Jvm.Cond.privateMethod ({ cls := "WingTrams$Reader", name := "here", desc := "()I" } : Jvm.MethodName)) ∈ lw_tbl := lw_at lw_m4 43 rfl
theorem q874 : (Jvm.Cond.instanceMethod ({ cls := "WingTrams$Reader", name := "here", desc := "()I" } : Jvm.MethodName)) ∈ lw_all := lw_g (lw_at lw_m4 44 rfl) rfl
theorem q875 : (Jvm.Cond.code ({ cls := "WingTrams$Reader", name := "here", desc := "()I" } : Jvm.MethodName) prog_9_method_2_code (1 : Nat) (Option.some Jvm.ClassFile.FieldType.int)) ∈ lw_all := lw_g (lw_at lw_m4 45 rfl) rfl
theorem q876 : (Jvm.Cond.methodLink "WingTrams$Reader" (47 : Nat) ({ cls := "WingTrams$Reader", name := "isLetter", desc := "()Z" } : Jvm.MethodName)) ∈ lw_all := lw_g (lw_at lw_m4 46 rfl) rfl
theorem q877 : (Jvm.Cond.privateMethod ({ cls := "WingTrams$Reader", name := "isLetter", desc := "()Z" } : Jvm.MethodName)) ∈ lw_tbl := lw_at lw_m4 47 rfl
theorem q878 : (Jvm.Cond.instanceMethod ({ cls := "WingTrams$Reader", name := "isLetter", desc := "()Z" } : Jvm.MethodName)) ∈ lw_all := lw_g (lw_at lw_m4 48 rfl) rfl
theorem q879 : (Jvm.Cond.code ({ cls := "WingTrams$Reader", name := "isLetter", desc := "()Z" } : Jvm.MethodName) prog_9_method_3_code (1 : Nat) (Option.some Jvm.ClassFile.FieldType.boolean)) ∈ lw_all := lw_g (lw_at lw_m4 49 rfl) rfl
theorem q880 : (Jvm.Cond.methodLinkNest "WingTrams$Reader" (37 : Nat) ({ cls := "WingTrams", name := "in", desc := "(III)Z" } : Jvm.MethodName) "WingTrams") ∈ lw_tbl := lw_at lw_m4 50 rfl
theorem q881 : (Jvm.Cond.methodLink "WingTrams$Reader" (51 : Nat) ({ cls := "WingTrams$Reader", name := "isDigit", desc := "()Z" } : Jvm.MethodName)) ∈ lw_all := lw_g (lw_at lw_m4 51 rfl) rfl
theorem q882 : (Jvm.Cond.privateMethod ({ cls := "WingTrams$Reader", name := "isDigit", desc := "()Z" } : Jvm.MethodName)) ∈ lw_tbl := lw_at lw_m4 52 rfl
theorem q883 : (Jvm.Cond.instanceMethod ({ cls := "WingTrams$Reader", name := "isDigit", desc := "()Z" } : Jvm.MethodName)) ∈ lw_all := lw_g (lw_at lw_m4 53 rfl) rfl
theorem q884 : (Jvm.Cond.code ({ cls := "WingTrams$Reader", name := "isDigit", desc := "()Z" } : Jvm.MethodName) prog_9_method_4_code (1 : Nat) (Option.some Jvm.ClassFile.FieldType.boolean)) ∈ lw_all := lw_g (lw_at lw_m4 54 rfl) rfl
theorem q885 : (Jvm.Cond.constant "WingTrams$Reader" (57 : Nat) (100000 : Int32)) ∈ lw_all := lw_g (lw_at lw_m4 55 rfl) rfl
theorem q886 : (Jvm.Cond.methodLink "WingTrams$Reader" (58 : Nat) ({ cls := "java/lang/Math", name := "min", desc := "(II)I" } : Jvm.MethodName)) ∈ lw_all := lw_g (lw_at lw_m4 56 rfl) rfl
theorem q887 : (Jvm.Cond.stringRef "WingTrams$Reader" (64 : Nat) ";()+-*/<=") ∈ lw_tbl := lw_at lw_m4 57 rfl
theorem q888 : (Jvm.Cond.methodLink "WingTrams$Reader" (66 : Nat) ({ cls := "java/lang/String", name := "indexOf", desc := "(I)I" } : Jvm.MethodName)) ∈ lw_all := lw_g (lw_at lw_m4 58 rfl) rfl
theorem q957 : (Jvm.Cond.methodLink "WingTrams$Reader" (256 : Nat) ({ cls := "WingTrams$Reader", name := "line", desc := "()V" } : Jvm.MethodName)) ∈ lw_all := lw_g (lw_at lw_m4 127 rfl) rfl
theorem q958 : (Jvm.Cond.privateMethod ({ cls := "WingTrams$Reader", name := "line", desc := "()V" } : Jvm.MethodName)) ∈ lw_tbl := lw_at lw_m4 128 rfl
theorem q959 : (Jvm.Cond.instanceMethod ({ cls := "WingTrams$Reader", name := "line", desc := "()V" } : Jvm.MethodName)) ∈ lw_all := lw_g (lw_at lw_m4 129 rfl) rfl
theorem q960 : (Jvm.Cond.code ({ cls := "WingTrams$Reader", name := "line", desc := "()V" } : Jvm.MethodName) prog_9_method_25_code (2 : Nat) (Option.none : Option Jvm.ClassFile.FieldType)) ∈ lw_all := lw_g (lw_at lw_m4 130 rfl) rfl
theorem q961 : (Jvm.Cond.stringRef "WingTrams$Reader" (223 : Nat) "tawny") ∈ lw_tbl := lw_at lw_m4 131 rfl
theorem q962 : (Jvm.Cond.methodLink "WingTrams$Reader" (82 : Nat) ({ cls := "WingTrams$Reader", name := "is", desc := "(Ljava/lang/String;)Z" } : Jvm.MethodName)) ∈ lw_all := lw_g (lw_at lw_m4 132 rfl) rfl
theorem q963 : (Jvm.Cond.privateMethod ({ cls := "WingTrams$Reader", name := "is", desc := "(Ljava/lang/String;)Z" } : Jvm.MethodName)) ∈ lw_tbl := lw_at lw_m4 133 rfl
theorem q964 : (Jvm.Cond.instanceMethod ({ cls := "WingTrams$Reader", name := "is", desc := "(Ljava/lang/String;)Z" } : Jvm.MethodName)) ∈ lw_all := lw_g (lw_at lw_m4 134 rfl) rfl
theorem q965 : (Jvm.Cond.code ({ cls := "WingTrams$Reader", name := "is", desc := "(Ljava/lang/String;)Z" } : Jvm.MethodName) prog_9_method_6_code (3 : Nat) (Option.some Jvm.ClassFile.FieldType.boolean)) ∈ lw_all := lw_g (lw_at lw_m4 135 rfl) rfl
theorem q966 : (Jvm.Cond.methodLink "WingTrams$Reader" (75 : Nat) ({ cls := "java/lang/String", name := "length", desc := "()I" } : Jvm.MethodName)) ∈ lw_all := lw_g (lw_at lw_m4 136 rfl) rfl
theorem q967 : (Jvm.Cond.methodLink "WingTrams$Reader" (78 : Nat) ({ cls := "java/lang/String", name := "charAt", desc := "(I)C" } : Jvm.MethodName)) ∈ lw_all := lw_g (lw_at lw_m4 137 rfl) rfl
theorem q982 : (Jvm.Cond.stringRef "WingTrams$Reader" (225 : Nat) "barn") ∈ lw_tbl := lw_at lw_m4 152 rfl
theorem q983 : (Jvm.Cond.stringRef "WingTrams$Reader" (227 : Nat) "white") ∈ lw_tbl := lw_at lw_m4 153 rfl
theorem q984 : (Jvm.Cond.methodLink "WingTrams$Reader" (229 : Nat) ({ cls := "WingTrams$Reader", name := "owl", desc := "(I)V" } : Jvm.MethodName)) ∈ lw_all := lw_g (lw_at lw_m4 154 rfl) rfl
theorem q985 : (Jvm.Cond.privateMethod ({ cls := "WingTrams$Reader", name := "owl", desc := "(I)V" } : Jvm.MethodName)) ∈ lw_tbl := lw_at lw_m4 155 rfl
theorem q986 : (Jvm.Cond.instanceMethod ({ cls := "WingTrams$Reader", name := "owl", desc := "(I)V" } : Jvm.MethodName)) ∈ lw_all := lw_g (lw_at lw_m4 156 rfl) rfl
theorem q987 : (Jvm.Cond.code ({ cls := "WingTrams$Reader", name := "owl", desc := "(I)V" } : Jvm.MethodName) prog_9_method_23_code (4 : Nat) (Option.none : Option Jvm.ClassFile.FieldType)) ∈ lw_all := lw_g (lw_at lw_m4 157 rfl) rfl
theorem q988 : (Jvm.Cond.interfaceEntry "WingTrams$Reader" (196 : Nat)) ∈ lw_tbl := lw_at lw_m4 158 rfl
theorem q989 : (Jvm.Cond.methodLink "WingTrams$Reader" (196 : Nat) ({ cls := "java/util/List", name := "size", desc := "()I" } : Jvm.MethodName)) ∈ lw_all := lw_g (lw_at lw_m4 159 rfl) rfl
theorem q990 : (Jvm.Cond.methodLink "WingTrams$Reader" (94 : Nat) ({ cls := "WingTrams$Reader", name := "want", desc := "(ZI)V" } : Jvm.MethodName)) ∈ lw_all := lw_g (lw_at lw_m4 160 rfl) rfl
theorem q991 : (Jvm.Cond.privateMethod ({ cls := "WingTrams$Reader", name := "want", desc := "(ZI)V" } : Jvm.MethodName)) ∈ lw_tbl := lw_at lw_m4 161 rfl
theorem q992 : (Jvm.Cond.instanceMethod ({ cls := "WingTrams$Reader", name := "want", desc := "(ZI)V" } : Jvm.MethodName)) ∈ lw_all := lw_g (lw_at lw_m4 162 rfl) rfl
theorem q993 : (Jvm.Cond.code ({ cls := "WingTrams$Reader", name := "want", desc := "(ZI)V" } : Jvm.MethodName) prog_9_method_9_code (3 : Nat) (Option.none : Option Jvm.ClassFile.FieldType)) ∈ lw_all := lw_g (lw_at lw_m4 163 rfl) rfl
theorem q994 : (Jvm.Cond.classLink "WingTrams$Reader" (89 : Nat) "WingTrams$Wrong") ∈ lw_all := lw_g (lw_at lw_m4 164 rfl) rfl
theorem q1003 : (Jvm.Cond.methodLink "WingTrams$Reader" (91 : Nat) ({ cls := "WingTrams$Wrong", name := "<init>", desc := "(I)V" } : Jvm.MethodName)) ∈ lw_all := lw_g (lw_at lw_m4 173 rfl) rfl
theorem q1018 : (Jvm.Cond.classLink "WingTrams$Reader" (200 : Nat) "WingTrams$Owl") ∈ lw_all := lw_g (lw_at lw_m4 188 rfl) rfl
theorem q1020 : (Jvm.Cond.methodLink "WingTrams$Reader" (109 : Nat) ({ cls := "WingTrams$Reader", name := "number", desc := "(II)I" } : Jvm.MethodName)) ∈ lw_all := lw_g (lw_at lw_m4 190 rfl) rfl
theorem q1021 : (Jvm.Cond.privateMethod ({ cls := "WingTrams$Reader", name := "number", desc := "(II)I" } : Jvm.MethodName)) ∈ lw_tbl := lw_at lw_m4 191 rfl
theorem q1022 : (Jvm.Cond.instanceMethod ({ cls := "WingTrams$Reader", name := "number", desc := "(II)I" } : Jvm.MethodName)) ∈ lw_all := lw_g (lw_at lw_m4 192 rfl) rfl
theorem q1023 : (Jvm.Cond.code ({ cls := "WingTrams$Reader", name := "number", desc := "(II)I" } : Jvm.MethodName) prog_9_method_11_code (4 : Nat) (Option.some Jvm.ClassFile.FieldType.int)) ∈ lw_all := lw_g (lw_at lw_m4 193 rfl) rfl
theorem q1024 : (Jvm.Cond.methodLink "WingTrams$Reader" (98 : Nat) ({ cls := "WingTrams$Reader", name := "numberNow", desc := "(II)I" } : Jvm.MethodName)) ∈ lw_all := lw_g (lw_at lw_m4 194 rfl) rfl
theorem q1025 : (Jvm.Cond.privateMethod ({ cls := "WingTrams$Reader", name := "numberNow", desc := "(II)I" } : Jvm.MethodName)) ∈ lw_tbl := lw_at lw_m4 195 rfl
theorem q1026 : (Jvm.Cond.instanceMethod ({ cls := "WingTrams$Reader", name := "numberNow", desc := "(II)I" } : Jvm.MethodName)) ∈ lw_all := lw_g (lw_at lw_m4 196 rfl) rfl
theorem q1027 : (Jvm.Cond.code ({ cls := "WingTrams$Reader", name := "numberNow", desc := "(II)I" } : Jvm.MethodName) prog_9_method_10_code (3 : Nat) (Option.some Jvm.ClassFile.FieldType.int)) ∈ lw_all := lw_g (lw_at lw_m4 197 rfl) rfl
theorem q1028 : (Jvm.Cond.methodLink "WingTrams$Reader" (202 : Nat) ({ cls := "WingTrams$Owl", name := "<init>", desc := "(II)V" } : Jvm.MethodName)) ∈ lw_all := lw_g (lw_at lw_m4 198 rfl) rfl
theorem q1041 : (Jvm.Cond.fieldLinkNest "WingTrams$Reader" (208 : Nat) "WingTrams$Owl" "way" "Ljava/util/List;" "WingTrams") ∈ lw_tbl := lw_at lw_m4 211 rfl
theorem q1049 : (Jvm.Cond.methodLink "WingTrams$Reader" (205 : Nat) ({ cls := "WingTrams$Owl", name := "size", desc := "()I" } : Jvm.MethodName)) ∈ lw_all := lw_g (lw_at lw_m4 219 rfl) rfl
theorem q1050 : (Jvm.Cond.methodLink "WingTrams$Reader" (104 : Nat) ({ cls := "WingTrams$Reader", name := "roofNow", desc := "()I" } : Jvm.MethodName)) ∈ lw_all := lw_g (lw_at lw_m4 220 rfl) rfl
theorem q1051 : (Jvm.Cond.privateMethod ({ cls := "WingTrams$Reader", name := "roofNow", desc := "()I" } : Jvm.MethodName)) ∈ lw_tbl := lw_at lw_m4 221 rfl
theorem q1052 : (Jvm.Cond.instanceMethod ({ cls := "WingTrams$Reader", name := "roofNow", desc := "()I" } : Jvm.MethodName)) ∈ lw_all := lw_g (lw_at lw_m4 222 rfl) rfl
theorem q1053 : (Jvm.Cond.code ({ cls := "WingTrams$Reader", name := "roofNow", desc := "()I" } : Jvm.MethodName) prog_9_method_12_code (2 : Nat) (Option.some Jvm.ClassFile.FieldType.int)) ∈ lw_all := lw_g (lw_at lw_m4 223 rfl) rfl
theorem q1054 : (Jvm.Cond.methodLink "WingTrams$Reader" (206 : Nat) ({ cls := "WingTrams$Owl", name := "at", desc := "(I)I" } : Jvm.MethodName)) ∈ lw_all := lw_g (lw_at lw_m4 224 rfl) rfl
theorem q1055 : (Jvm.Cond.methodLink "WingTrams$Reader" (211 : Nat) ({ cls := "java/lang/Integer", name := "valueOf", desc := "(I)Ljava/lang/Integer;" } : Jvm.MethodName)) ∈ lw_all := lw_g (lw_at lw_m4 225 rfl) rfl
theorem q1075 : (Jvm.Cond.interfaceEntry "WingTrams$Reader" (217 : Nat)) ∈ lw_tbl := lw_at lw_m5 5 rfl
theorem q1076 : (Jvm.Cond.methodLink "WingTrams$Reader" (217 : Nat) ({ cls := "java/util/List", name := "add", desc := "(Ljava/lang/Object;)Z" } : Jvm.MethodName)) ∈ lw_all := lw_g (lw_at lw_m5 6 rfl) rfl
theorem q1077 : (Jvm.Cond.stringRef "WingTrams$Reader" (232 : Nat) "roof") ∈ lw_tbl := lw_at lw_m5 7 rfl
theorem q1078 : (Jvm.Cond.methodLink "WingTrams$Reader" (233 : Nat) ({ cls := "WingTrams$Reader", name := "aRoof", desc := "()V" } : Jvm.MethodName)) ∈ lw_all := lw_g (lw_at lw_m5 8 rfl) rfl
theorem q1079 : (Jvm.Cond.privateMethod ({ cls := "WingTrams$Reader", name := "aRoof", desc := "()V" } : Jvm.MethodName)) ∈ lw_tbl := lw_at lw_m5 9 rfl
theorem q1080 : (Jvm.Cond.instanceMethod ({ cls := "WingTrams$Reader", name := "aRoof", desc := "()V" } : Jvm.MethodName)) ∈ lw_all := lw_g (lw_at lw_m5 10 rfl) rfl
theorem q1081 : (Jvm.Cond.code ({ cls := "WingTrams$Reader", name := "aRoof", desc := "()V" } : Jvm.MethodName) prog_9_method_21_code (1 : Nat) (Option.none : Option Jvm.ClassFile.FieldType)) ∈ lw_all := lw_g (lw_at lw_m5 11 rfl) rfl
theorem q1082 : (Jvm.Cond.stringRef "WingTrams$Reader" (236 : Nat) "flight") ∈ lw_tbl := lw_at lw_m5 12 rfl
theorem q1083 : (Jvm.Cond.methodLink "WingTrams$Reader" (238 : Nat) ({ cls := "WingTrams$Reader", name := "flight", desc := "()V" } : Jvm.MethodName)) ∈ lw_all := lw_g (lw_at lw_m5 13 rfl) rfl
theorem q1084 : (Jvm.Cond.privateMethod ({ cls := "WingTrams$Reader", name := "flight", desc := "()V" } : Jvm.MethodName)) ∈ lw_tbl := lw_at lw_m5 14 rfl
theorem q1085 : (Jvm.Cond.instanceMethod ({ cls := "WingTrams$Reader", name := "flight", desc := "()V" } : Jvm.MethodName)) ∈ lw_all := lw_g (lw_at lw_m5 15 rfl) rfl
theorem q1086 : (Jvm.Cond.code ({ cls := "WingTrams$Reader", name := "flight", desc := "()V" } : Jvm.MethodName) prog_9_method_22_code (4 : Nat) (Option.none : Option Jvm.ClassFile.FieldType)) ∈ lw_all := lw_g (lw_at lw_m5 16 rfl) rfl
theorem q1087 : (Jvm.Cond.methodLink "WingTrams$Reader" (185 : Nat) ({ cls := "WingTrams$Reader", name := "roof", desc := "()I" } : Jvm.MethodName)) ∈ lw_all := lw_g (lw_at lw_m5 17 rfl) rfl
theorem q1088 : (Jvm.Cond.privateMethod ({ cls := "WingTrams$Reader", name := "roof", desc := "()I" } : Jvm.MethodName)) ∈ lw_tbl := lw_at lw_m5 18 rfl
theorem q1089 : (Jvm.Cond.instanceMethod ({ cls := "WingTrams$Reader", name := "roof", desc := "()I" } : Jvm.MethodName)) ∈ lw_all := lw_g (lw_at lw_m5 19 rfl) rfl
theorem q1090 : (Jvm.Cond.code ({ cls := "WingTrams$Reader", name := "roof", desc := "()I" } : Jvm.MethodName) prog_9_method_13_code (2 : Nat) (Option.some Jvm.ClassFile.FieldType.int)) ∈ lw_all := lw_g (lw_at lw_m5 20 rfl) rfl
theorem q1091 : (Jvm.Cond.stringRef "WingTrams$Reader" (240 : Nat) "rider") ∈ lw_tbl := lw_at lw_m5 21 rfl
theorem q1092 : (Jvm.Cond.methodLink "WingTrams$Reader" (242 : Nat) ({ cls := "WingTrams$Reader", name := "rider", desc := "()V" } : Jvm.MethodName)) ∈ lw_all := lw_g (lw_at lw_m5 22 rfl) rfl
theorem q1093 : (Jvm.Cond.privateMethod ({ cls := "WingTrams$Reader", name := "rider", desc := "()V" } : Jvm.MethodName)) ∈ lw_tbl := lw_at lw_m5 23 rfl
theorem q1094 : (Jvm.Cond.instanceMethod ({ cls := "WingTrams$Reader", name := "rider", desc := "()V" } : Jvm.MethodName)) ∈ lw_all := lw_g (lw_at lw_m5 24 rfl) rfl
theorem q1095 : (Jvm.Cond.code ({ cls := "WingTrams$Reader", name := "rider", desc := "()V" } : Jvm.MethodName) prog_9_method_24_code (4 : Nat) (Option.none : Option Jvm.ClassFile.FieldType)) ∈ lw_all := lw_g (lw_at lw_m5 25 rfl) rfl
theorem q1096 : (Jvm.Cond.stringRef "WingTrams$Reader" (244 : Nat) "dawn") ∈ lw_tbl := lw_at lw_m5 26 rfl
theorem q1097 : (Jvm.Cond.stringRef "WingTrams$Reader" (252 : Nat) "hunts") ∈ lw_tbl := lw_at lw_m5 27 rfl
theorem q1098 : (Jvm.Cond.methodLink "WingTrams$Reader" (116 : Nat) ({ cls := "WingTrams$Reader", name := "expression", desc := "(I)LWingTrams$Form;" } : Jvm.MethodName)) ∈ lw_all := lw_g (lw_at lw_m5 28 rfl) rfl
theorem q1099 : (Jvm.Cond.privateMethod ({ cls := "WingTrams$Reader", name := "expression", desc := "(I)LWingTrams$Form;" } : Jvm.MethodName)) ∈ lw_tbl := lw_at lw_m5 29 rfl
theorem q1100 : (Jvm.Cond.instanceMethod ({ cls := "WingTrams$Reader", name := "expression", desc := "(I)LWingTrams$Form;" } : Jvm.MethodName)) ∈ lw_all := lw_g (lw_at lw_m5 30 rfl) rfl
theorem q1101 : (Jvm.Cond.code ({ cls := "WingTrams$Reader", name := "expression", desc := "(I)LWingTrams$Form;" } : Jvm.MethodName) prog_9_method_20_code (3 : Nat) (Option.some (Jvm.ClassFile.FieldType.object "WingTrams$Form"))) ∈ lw_all := lw_g (lw_at lw_m5 31 rfl) rfl
theorem q1102 : (Jvm.Cond.methodLink "WingTrams$Reader" (112 : Nat) ({ cls := "WingTrams$Reader", name := "isSign", desc := "(C)Z" } : Jvm.MethodName)) ∈ lw_all := lw_g (lw_at lw_m5 32 rfl) rfl
theorem q1103 : (Jvm.Cond.privateMethod ({ cls := "WingTrams$Reader", name := "isSign", desc := "(C)Z" } : Jvm.MethodName)) ∈ lw_tbl := lw_at lw_m5 33 rfl
theorem q1104 : (Jvm.Cond.instanceMethod ({ cls := "WingTrams$Reader", name := "isSign", desc := "(C)Z" } : Jvm.MethodName)) ∈ lw_all := lw_g (lw_at lw_m5 34 rfl) rfl
theorem q1105 : (Jvm.Cond.code ({ cls := "WingTrams$Reader", name := "isSign", desc := "(C)Z" } : Jvm.MethodName) prog_9_method_7_code (2 : Nat) (Option.some Jvm.ClassFile.FieldType.boolean)) ∈ lw_all := lw_g (lw_at lw_m5 35 rfl) rfl
theorem q1106 : (Jvm.Cond.classLink "WingTrams$Reader" (137 : Nat) "WingTrams$Chain") ∈ lw_all := lw_g (lw_at lw_m5 36 rfl) rfl
theorem q1108 : (Jvm.Cond.methodLink "WingTrams$Reader" (175 : Nat) ({ cls := "WingTrams$Reader", name := "and", desc := "(I)LWingTrams$Form;" } : Jvm.MethodName)) ∈ lw_all := lw_g (lw_at lw_m5 38 rfl) rfl
theorem q1109 : (Jvm.Cond.privateMethod ({ cls := "WingTrams$Reader", name := "and", desc := "(I)LWingTrams$Form;" } : Jvm.MethodName)) ∈ lw_tbl := lw_at lw_m5 39 rfl
theorem q1110 : (Jvm.Cond.instanceMethod ({ cls := "WingTrams$Reader", name := "and", desc := "(I)LWingTrams$Form;" } : Jvm.MethodName)) ∈ lw_all := lw_g (lw_at lw_m5 40 rfl) rfl
theorem q1111 : (Jvm.Cond.code ({ cls := "WingTrams$Reader", name := "and", desc := "(I)LWingTrams$Form;" } : Jvm.MethodName) prog_9_method_19_code (3 : Nat) (Option.some (Jvm.ClassFile.FieldType.object "WingTrams$Form"))) ∈ lw_all := lw_g (lw_at lw_m5 41 rfl) rfl
theorem q1112 : (Jvm.Cond.methodLink "WingTrams$Reader" (168 : Nat) ({ cls := "WingTrams$Reader", name := "not", desc := "(I)LWingTrams$Form;" } : Jvm.MethodName)) ∈ lw_all := lw_g (lw_at lw_m5 42 rfl) rfl
theorem q1113 : (Jvm.Cond.privateMethod ({ cls := "WingTrams$Reader", name := "not", desc := "(I)LWingTrams$Form;" } : Jvm.MethodName)) ∈ lw_tbl := lw_at lw_m5 43 rfl
theorem q1114 : (Jvm.Cond.instanceMethod ({ cls := "WingTrams$Reader", name := "not", desc := "(I)LWingTrams$Form;" } : Jvm.MethodName)) ∈ lw_all := lw_g (lw_at lw_m5 44 rfl) rfl
theorem q1115 : (Jvm.Cond.code ({ cls := "WingTrams$Reader", name := "not", desc := "(I)LWingTrams$Form;" } : Jvm.MethodName) prog_9_method_18_code (6 : Nat) (Option.some (Jvm.ClassFile.FieldType.object "WingTrams$Form"))) ∈ lw_all := lw_g (lw_at lw_m5 45 rfl) rfl
theorem q1116 : (Jvm.Cond.stringRef "WingTrams$Reader" (160 : Nat) "not") ∈ lw_tbl := lw_at lw_m5 46 rfl
theorem q1117 : (Jvm.Cond.methodLink "WingTrams$Reader" (162 : Nat) ({ cls := "WingTrams$Reader", name := "sum", desc := "(I)LWingTrams$Form;" } : Jvm.MethodName)) ∈ lw_all := lw_g (lw_at lw_m5 47 rfl) rfl
theorem q1118 : (Jvm.Cond.privateMethod ({ cls := "WingTrams$Reader", name := "sum", desc := "(I)LWingTrams$Form;" } : Jvm.MethodName)) ∈ lw_tbl := lw_at lw_m5 48 rfl
theorem q1119 : (Jvm.Cond.instanceMethod ({ cls := "WingTrams$Reader", name := "sum", desc := "(I)LWingTrams$Form;" } : Jvm.MethodName)) ∈ lw_all := lw_g (lw_at lw_m5 49 rfl) rfl
theorem q1120 : (Jvm.Cond.code ({ cls := "WingTrams$Reader", name := "sum", desc := "(I)LWingTrams$Form;" } : Jvm.MethodName) prog_9_method_17_code (4 : Nat) (Option.some (Jvm.ClassFile.FieldType.object "WingTrams$Form"))) ∈ lw_all := lw_g (lw_at lw_m5 50 rfl) rfl
theorem q1121 : (Jvm.Cond.methodLink "WingTrams$Reader" (157 : Nat) ({ cls := "WingTrams$Reader", name := "product", desc := "(I)LWingTrams$Form;" } : Jvm.MethodName)) ∈ lw_all := lw_g (lw_at lw_m5 51 rfl) rfl
theorem q1122 : (Jvm.Cond.privateMethod ({ cls := "WingTrams$Reader", name := "product", desc := "(I)LWingTrams$Form;" } : Jvm.MethodName)) ∈ lw_tbl := lw_at lw_m5 52 rfl
theorem q1123 : (Jvm.Cond.instanceMethod ({ cls := "WingTrams$Reader", name := "product", desc := "(I)LWingTrams$Form;" } : Jvm.MethodName)) ∈ lw_all := lw_g (lw_at lw_m5 53 rfl) rfl
theorem q1124 : (Jvm.Cond.code ({ cls := "WingTrams$Reader", name := "product", desc := "(I)LWingTrams$Form;" } : Jvm.MethodName) prog_9_method_16_code (4 : Nat) (Option.some (Jvm.ClassFile.FieldType.object "WingTrams$Form"))) ∈ lw_all := lw_g (lw_at lw_m5 54 rfl) rfl
theorem q1125 : (Jvm.Cond.methodLink "WingTrams$Reader" (139 : Nat) ({ cls := "WingTrams$Reader", name := "part", desc := "(I)LWingTrams$Form;" } : Jvm.MethodName)) ∈ lw_all := lw_g (lw_at lw_m5 55 rfl) rfl
theorem q1126 : (Jvm.Cond.privateMethod ({ cls := "WingTrams$Reader", name := "part", desc := "(I)LWingTrams$Form;" } : Jvm.MethodName)) ∈ lw_tbl := lw_at lw_m5 56 rfl
theorem q1127 : (Jvm.Cond.instanceMethod ({ cls := "WingTrams$Reader", name := "part", desc := "(I)LWingTrams$Form;" } : Jvm.MethodName)) ∈ lw_all := lw_g (lw_at lw_m5 57 rfl) rfl
theorem q1128 : (Jvm.Cond.code ({ cls := "WingTrams$Reader", name := "part", desc := "(I)LWingTrams$Form;" } : Jvm.MethodName) prog_9_method_14_code (3 : Nat) (Option.some (Jvm.ClassFile.FieldType.object "WingTrams$Form"))) ∈ lw_all := lw_g (lw_at lw_m5 58 rfl) rfl
theorem q1129 : (Jvm.Cond.classLink "WingTrams$Reader" (107 : Nat) "WingTrams$Number") ∈ lw_all := lw_g (lw_at lw_m5 59 rfl) rfl
theorem q1131 : (Jvm.Cond.methodLink "WingTrams$Reader" (111 : Nat) ({ cls := "WingTrams$Number", name := "<init>", desc := "(I)V" } : Jvm.MethodName)) ∈ lw_all := lw_g (lw_at lw_m5 61 rfl) rfl
theorem q1139 : (Jvm.Cond.stringRef "WingTrams$Reader" (120 : Nat) "mice") ∈ lw_tbl := lw_at lw_m5 69 rfl
theorem q1140 : (Jvm.Cond.stringRef "WingTrams$Reader" (122 : Nat) "grain") ∈ lw_tbl := lw_at lw_m5 70 rfl
theorem q1141 : (Jvm.Cond.stringRef "WingTrams$Reader" (124 : Nat) "kind") ∈ lw_tbl := lw_at lw_m5 71 rfl
theorem q1142 : (Jvm.Cond.stringRef "WingTrams$Reader" (126 : Nat) "stop") ∈ lw_tbl := lw_at lw_m5 72 rfl
theorem q1143 : (Jvm.Cond.stringRef "WingTrams$Reader" (128 : Nat) "moon") ∈ lw_tbl := lw_at lw_m5 73 rfl
theorem q1144 : (Jvm.Cond.stringRef "WingTrams$Reader" (130 : Nat) "wet") ∈ lw_tbl := lw_at lw_m5 74 rfl
theorem q1145 : (Jvm.Cond.stringRef "WingTrams$Reader" (132 : Nat) "hour") ∈ lw_tbl := lw_at lw_m5 75 rfl
theorem q1146 : (Jvm.Cond.classLink "WingTrams$Reader" (134 : Nat) "WingTrams$Value") ∈ lw_all := lw_g (lw_at lw_m5 76 rfl) rfl
theorem q1148 : (Jvm.Cond.methodLink "WingTrams$Reader" (136 : Nat) ({ cls := "WingTrams$Value", name := "<init>", desc := "(I)V" } : Jvm.MethodName)) ∈ lw_all := lw_g (lw_at lw_m5 78 rfl) rfl
theorem q1156 : (Jvm.Cond.methodLink "WingTrams$Reader" (142 : Nat) ({ cls := "WingTrams$Chain", name := "<init>", desc := "(LWingTrams$Form;)V" } : Jvm.MethodName)) ∈ lw_all := lw_g (lw_at lw_m5 86 rfl) rfl
theorem q1199 : (Jvm.Cond.methodLink "WingTrams$Reader" (145 : Nat) ({ cls := "WingTrams$Reader", name := "sign", desc := "()C" } : Jvm.MethodName)) ∈ lw_all := lw_g (lw_at lw_m5 129 rfl) rfl
theorem q1200 : (Jvm.Cond.privateMethod ({ cls := "WingTrams$Reader", name := "sign", desc := "()C" } : Jvm.MethodName)) ∈ lw_tbl := lw_at lw_m5 130 rfl
theorem q1201 : (Jvm.Cond.instanceMethod ({ cls := "WingTrams$Reader", name := "sign", desc := "()C" } : Jvm.MethodName)) ∈ lw_all := lw_g (lw_at lw_m5 131 rfl) rfl
theorem q1202 : (Jvm.Cond.code ({ cls := "WingTrams$Reader", name := "sign", desc := "()C" } : Jvm.MethodName) prog_9_method_15_code (2 : Nat) (Option.some Jvm.ClassFile.FieldType.char)) ∈ lw_all := lw_g (lw_at lw_m5 132 rfl) rfl
theorem q1203 : (Jvm.Cond.methodLink "WingTrams$Reader" (149 : Nat) ({ cls := "WingTrams$Chain", name := "add", desc := "(CLWingTrams$Form;)V" } : Jvm.MethodName)) ∈ lw_all := lw_g (lw_at lw_m5 133 rfl) rfl
theorem q1267 : (Jvm.Cond.methodLink "WingTrams$Reader" (153 : Nat) ({ cls := "WingTrams$Chain", name := "plain", desc := "()LWingTrams$Form;" } : Jvm.MethodName)) ∈ lw_all := lw_g (lw_at lw_m5 197 rfl) rfl
theorem q1271 : (Jvm.Cond.classLink "WingTrams$Reader" (165 : Nat) "WingTrams$Not") ∈ lw_all := lw_g (lw_at lw_m5 201 rfl) rfl
theorem q1273 : (Jvm.Cond.methodLink "WingTrams$Reader" (167 : Nat) ({ cls := "WingTrams$Not", name := "<init>", desc := "(LWingTrams$Form;)V" } : Jvm.MethodName)) ∈ lw_all := lw_g (lw_at lw_m5 203 rfl) rfl
theorem q1281 : (Jvm.Cond.stringRef "WingTrams$Reader" (170 : Nat) "and") ∈ lw_tbl := lw_at lw_m5 211 rfl
theorem q1282 : (Jvm.Cond.methodLink "WingTrams$Reader" (172 : Nat) ({ cls := "WingTrams$Reader", name := "passes", desc := "(Ljava/lang/String;)Z" } : Jvm.MethodName)) ∈ lw_all := lw_g (lw_at lw_m5 212 rfl) rfl
theorem q1283 : (Jvm.Cond.privateMethod ({ cls := "WingTrams$Reader", name := "passes", desc := "(Ljava/lang/String;)Z" } : Jvm.MethodName)) ∈ lw_tbl := lw_at lw_m5 213 rfl
theorem q1284 : (Jvm.Cond.instanceMethod ({ cls := "WingTrams$Reader", name := "passes", desc := "(Ljava/lang/String;)Z" } : Jvm.MethodName)) ∈ lw_all := lw_g (lw_at lw_m5 214 rfl) rfl
theorem q1285 : (Jvm.Cond.code ({ cls := "WingTrams$Reader", name := "passes", desc := "(Ljava/lang/String;)Z" } : Jvm.MethodName) prog_9_method_8_code (3 : Nat) (Option.some Jvm.ClassFile.FieldType.boolean)) ∈ lw_all := lw_g (lw_at lw_m5 215 rfl) rfl
theorem q1286 : (Jvm.Cond.stringRef "WingTrams$Reader" (177 : Nat) "or") ∈ lw_tbl := lw_at lw_m5 216 rfl
theorem q2279 : (Jvm.Cond.castable "WingTrams$Reader" "java/lang/Object") ∈ lw_tbl := lw_at lw_m10 9 rfl
theorem in_X4 : ∀ w ∈ wsX40, w ∈ lw_all := lw_in wsX40 [845, 847, 849, 851, 853, 855, 857, 859, 861] (by decide +kernel) (by decide +kernel)
