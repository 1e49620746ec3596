/-! WingTrams -/
set_option maxRecDepth 100000
def RX1 : String := "WingTrams"
def TX1 : u_T := fun k => match k with
  | 0 => ("WingTrams", "city", "LWingTrams$City;", false)
  | 1 => ("WingTrams", "values", "[I", true)
  | 2 => ("WingTrams", "inForce", "I", false)
  | 3 => ("WingTrams", "moonNow", "I", false)
  | 4 => ("WingTrams", "nestsNow", "I", false)
  | 5 => ("WingTrams", "wetNow", "Z", false)
  | 6 => ("WingTrams", "tape", "[B", true)
  | 7 => ("WingTrams", "taped", "I", false)
  | 8 => ("WingTrams", "faultPlace", "I", false)
  | 9 => ("WingTrams", "refused", "[I", true)
  | 10 => ("WingTrams", "acts", "Ljava/util/List;", false)
  | 11 => ("WingTrams", "seen", "Ljava/util/List;", false)
  | 12 => ("WingTrams", "moreKept", "[I", false)
  | 13 => ("WingTrams", "settingsThen", "[I", false)
  | 14 => ("WingTrams", "actsThen", "Ljava/util/List;", false)
  | 15 => ("WingTrams", "seenThen", "Ljava/util/List;", false)
  | _ => ("WingTrams", "seed", "I", false)
def tyX1 : Nat → FieldType := fun k => match k with
  | 0 => .object "WingTrams$City"
  | 1 => .array .int
  | 2 => .int
  | 3 => .int
  | 4 => .int
  | 5 => .boolean
  | 6 => .array .byte
  | 7 => .int
  | 8 => .int
  | 9 => .array .int
  | 10 => .object "java/util/List"
  | 11 => .object "java/util/List"
  | 12 => .array .int
  | 13 => .array .int
  | 14 => .object "java/util/List"
  | 15 => .object "java/util/List"
  | _ => .int
abbrev wsX10 : List Cond := u_ws RX1 TX1 17
set_option maxRecDepth 100000 in
theorem nmX1 : ∀ a, a < 17 → ∀ b, b < 17 → a ≠ b → (TX1 a).2.1 ≠ (TX1 b).2.1 := by decide +kernel
set_option maxRecDepth 100000 in
theorem tyX1_ok : ∀ k, k < 17 → parseFieldDescriptor (TX1 k).2.2.1 = some (tyX1 k) := by decide +kernel
abbrev cX1_init : ByteArray := prog_1_method_6_code
def yX1_init : MethodName := ⟨RX1, "<init>", "()V"⟩
def dkwX1_init_3 : List UInt8 := [181, 0, 48, 177]
abbrev dktX1_init_3 : List UInt8 := dkwX1_init_3 ++ []
def dkwX1_init_2 : List UInt8 := [181, 0, 38, 42, 187, 0, 41, 89, 183, 0, 43, 181, 0, 44, 42, 187, 0, 41, 89, 183, 0, 43]
abbrev dktX1_init_2 : List UInt8 := dkwX1_init_2 ++ dktX1_init_3
def dkwX1_init_1 : List UInt8 := [2, 181, 0, 27, 42, 17, 2, 188, 188, 8, 181, 0, 31, 42, 2, 181, 0, 35, 42, 6, 188, 10]
abbrev dktX1_init_1 : List UInt8 := dkwX1_init_1 ++ dktX1_init_2
def dkwX1_init_0 : List UInt8 := [42, 183, 0, 13, 42, 187, 0, 16, 89, 183, 0, 18, 181, 0, 19, 42, 16, 7, 188, 10, 181, 0, 23, 42]
abbrev dktX1_init_0 : List UInt8 := dkwX1_init_0 ++ dktX1_init_1
theorem dksX1_init_0 : cX1_init.data.toList.drop 0 = dktX1_init_0 := by decide +kernel
theorem dksX1_init_1 : cX1_init.data.toList.drop 24 = dktX1_init_1 := dk_seg dksX1_init_0 24 rfl rfl
theorem dksX1_init_2 : cX1_init.data.toList.drop 46 = dktX1_init_2 := dk_seg dksX1_init_1 22 rfl rfl
theorem dksX1_init_3 : cX1_init.data.toList.drop 68 = dktX1_init_3 := dk_seg dksX1_init_2 22 rfl rfl
theorem dX1_init_0 : decode cX1_init 0 = .ok (.aload_n 0, 1) := dk_42 (dk_at dksX1_init_0 0 rfl rfl)
theorem dX1_init_1 : decode cX1_init 1 = .ok (.invokespecial 13, 3) := dk_183 0 13 (dk_at dksX1_init_0 1 rfl rfl)
theorem dX1_init_4 : decode cX1_init 4 = .ok (.aload_n 0, 1) := dk_42 (dk_at dksX1_init_0 4 rfl rfl)
theorem dX1_init_5 : decode cX1_init 5 = .ok (.new 16, 3) := dk_187 0 16 (dk_at dksX1_init_0 5 rfl rfl)
theorem dX1_init_8 : decode cX1_init 8 = .ok (.dup, 1) := dk_89 (dk_at dksX1_init_0 8 rfl rfl)
theorem dX1_init_9 : decode cX1_init 9 = .ok (.invokespecial 18, 3) := dk_183 0 18 (dk_at dksX1_init_0 9 rfl rfl)
theorem dX1_init_12 : decode cX1_init 12 = .ok (.putfield 19, 3) := dk_181 0 19 (dk_at dksX1_init_0 12 rfl rfl)
theorem dX1_init_15 : decode cX1_init 15 = .ok (.aload_n 0, 1) := dk_42 (dk_at dksX1_init_0 15 rfl rfl)
theorem dX1_init_16 : decode cX1_init 16 = .ok (.bipush 7, 2) := dk_16 7 (dk_at dksX1_init_0 16 rfl rfl)
theorem dX1_init_18 : decode cX1_init 18 = .ok (.newarray .int, 2) := dk_188_10 (dk_at dksX1_init_0 18 rfl rfl)
theorem dX1_init_20 : decode cX1_init 20 = .ok (.putfield 23, 3) := dk_181 0 23 (dk_at dksX1_init_0 20 rfl rfl)
theorem dX1_init_23 : decode cX1_init 23 = .ok (.aload_n 0, 1) := dk_42 (dk_at dksX1_init_0 23 rfl rfl)
theorem dX1_init_24 : decode cX1_init 24 = .ok (.iconst (-1), 1) := dk_2 (dk_at dksX1_init_1 0 rfl rfl)
theorem dX1_init_25 : decode cX1_init 25 = .ok (.putfield 27, 3) := dk_181 0 27 (dk_at dksX1_init_1 1 rfl rfl)
theorem dX1_init_28 : decode cX1_init 28 = .ok (.aload_n 0, 1) := dk_42 (dk_at dksX1_init_1 4 rfl rfl)
theorem dX1_init_29 : decode cX1_init 29 = .ok (.sipush 700, 3) := dk_17 2 188 (dk_at dksX1_init_1 5 rfl rfl)
theorem dX1_init_32 : decode cX1_init 32 = .ok (.newarray .byte, 2) := dk_188_8 (dk_at dksX1_init_1 8 rfl rfl)
theorem dX1_init_34 : decode cX1_init 34 = .ok (.putfield 31, 3) := dk_181 0 31 (dk_at dksX1_init_1 10 rfl rfl)
theorem dX1_init_37 : decode cX1_init 37 = .ok (.aload_n 0, 1) := dk_42 (dk_at dksX1_init_1 13 rfl rfl)
theorem dX1_init_38 : decode cX1_init 38 = .ok (.iconst (-1), 1) := dk_2 (dk_at dksX1_init_1 14 rfl rfl)
theorem dX1_init_39 : decode cX1_init 39 = .ok (.putfield 35, 3) := dk_181 0 35 (dk_at dksX1_init_1 15 rfl rfl)
theorem dX1_init_42 : decode cX1_init 42 = .ok (.aload_n 0, 1) := dk_42 (dk_at dksX1_init_1 18 rfl rfl)
theorem dX1_init_43 : decode cX1_init 43 = .ok (.iconst 3, 1) := dk_6 (dk_at dksX1_init_1 19 rfl rfl)
theorem dX1_init_44 : decode cX1_init 44 = .ok (.newarray .int, 2) := dk_188_10 (dk_at dksX1_init_1 20 rfl rfl)
theorem dX1_init_46 : decode cX1_init 46 = .ok (.putfield 38, 3) := dk_181 0 38 (dk_at dksX1_init_2 0 rfl rfl)
theorem dX1_init_49 : decode cX1_init 49 = .ok (.aload_n 0, 1) := dk_42 (dk_at dksX1_init_2 3 rfl rfl)
theorem dX1_init_50 : decode cX1_init 50 = .ok (.new 41, 3) := dk_187 0 41 (dk_at dksX1_init_2 4 rfl rfl)
theorem dX1_init_53 : decode cX1_init 53 = .ok (.dup, 1) := dk_89 (dk_at dksX1_init_2 7 rfl rfl)
theorem dX1_init_54 : decode cX1_init 54 = .ok (.invokespecial 43, 3) := dk_183 0 43 (dk_at dksX1_init_2 8 rfl rfl)
theorem dX1_init_57 : decode cX1_init 57 = .ok (.putfield 44, 3) := dk_181 0 44 (dk_at dksX1_init_2 11 rfl rfl)
theorem dX1_init_60 : decode cX1_init 60 = .ok (.aload_n 0, 1) := dk_42 (dk_at dksX1_init_2 14 rfl rfl)
theorem dX1_init_61 : decode cX1_init 61 = .ok (.new 41, 3) := dk_187 0 41 (dk_at dksX1_init_2 15 rfl rfl)
theorem dX1_init_64 : decode cX1_init 64 = .ok (.dup, 1) := dk_89 (dk_at dksX1_init_2 18 rfl rfl)
theorem dX1_init_65 : decode cX1_init 65 = .ok (.invokespecial 43, 3) := dk_183 0 43 (dk_at dksX1_init_2 19 rfl rfl)
theorem dX1_init_68 : decode cX1_init 68 = .ok (.putfield 48, 3) := dk_181 0 48 (dk_at dksX1_init_3 0 rfl rfl)
theorem dX1_init_71 : decode cX1_init 71 = .ok (.return_, 1) := dk_177 (dk_at dksX1_init_3 3 rfl rfl)
abbrev cX1_feed : ByteArray := prog_1_method_7_code
def yX1_feed : MethodName := ⟨RX1, "feed", "(IIIII)I"⟩
def dkwX1_feed_5 : List UInt8 := [180, 0, 51, 172]
abbrev dktX1_feed_5 : List UInt8 := dkwX1_feed_5 ++ []
def dkwX1_feed_4 : List UInt8 := [112, 104, 100, 122, 145, 84, 132, 6, 1, 167, 255, 172, 42, 89, 180, 0, 51, 16, 20, 96, 181, 0, 51, 42]
abbrev dktX1_feed_4 : List UInt8 := dkwX1_feed_4 ++ dktX1_feed_5
def dkwX1_feed_3 : List UInt8 := [21, 5, 54, 7, 42, 180, 0, 31, 42, 180, 0, 51, 21, 6, 96, 21, 7, 16, 24, 16, 8, 21, 6, 7]
abbrev dktX1_feed_3 : List UInt8 := dkwX1_feed_3 ++ dktX1_feed_4
def dkwX1_feed_2 : List UInt8 := [21, 6, 16, 12, 162, 0, 7, 29, 167, 0, 17, 21, 6, 16, 16, 162, 0, 8, 21, 4, 167, 0, 5]
abbrev dktX1_feed_2 : List UInt8 := dkwX1_feed_2 ++ dktX1_feed_3
def dkwX1_feed_1 : List UInt8 := [162, 0, 83, 21, 6, 7, 162, 0, 7, 27, 167, 0, 39, 21, 6, 16, 8, 162, 0, 7, 28, 167, 0, 28]
abbrev dktX1_feed_1 : List UInt8 := dkwX1_feed_1 ++ dktX1_feed_2
def dkwX1_feed_0 : List UInt8 := [42, 180, 0, 51, 16, 20, 96, 17, 2, 188, 164, 0, 5, 2, 172, 3, 54, 6, 21, 6, 16, 20]
abbrev dktX1_feed_0 : List UInt8 := dkwX1_feed_0 ++ dktX1_feed_1
theorem dksX1_feed_0 : cX1_feed.data.toList.drop 0 = dktX1_feed_0 := by decide +kernel
theorem dksX1_feed_1 : cX1_feed.data.toList.drop 22 = dktX1_feed_1 := dk_seg dksX1_feed_0 22 rfl rfl
theorem dksX1_feed_2 : cX1_feed.data.toList.drop 46 = dktX1_feed_2 := dk_seg dksX1_feed_1 24 rfl rfl
theorem dksX1_feed_3 : cX1_feed.data.toList.drop 69 = dktX1_feed_3 := dk_seg dksX1_feed_2 23 rfl rfl
theorem dksX1_feed_4 : cX1_feed.data.toList.drop 93 = dktX1_feed_4 := dk_seg dksX1_feed_3 24 rfl rfl
theorem dksX1_feed_5 : cX1_feed.data.toList.drop 117 = dktX1_feed_5 := dk_seg dksX1_feed_4 24 rfl rfl
theorem dX1_feed_0 : decode cX1_feed 0 = .ok (.aload_n 0, 1) := dk_42 (dk_at dksX1_feed_0 0 rfl rfl)
theorem dX1_feed_1 : decode cX1_feed 1 = .ok (.getfield 51, 3) := dk_180 0 51 (dk_at dksX1_feed_0 1 rfl rfl)
theorem dX1_feed_4 : decode cX1_feed 4 = .ok (.bipush 20, 2) := dk_16 20 (dk_at dksX1_feed_0 4 rfl rfl)
theorem dX1_feed_6 : decode cX1_feed 6 = .ok (.iadd, 1) := dk_96 (dk_at dksX1_feed_0 6 rfl rfl)
theorem dX1_feed_7 : decode cX1_feed 7 = .ok (.sipush 700, 3) := dk_17 2 188 (dk_at dksX1_feed_0 7 rfl rfl)
theorem dX1_feed_10 : decode cX1_feed 10 = .ok (.if_icmp .le 5, 3) := dk_164 0 5 (dk_at dksX1_feed_0 10 rfl rfl)
theorem dX1_feed_13 : decode cX1_feed 13 = .ok (.iconst (-1), 1) := dk_2 (dk_at dksX1_feed_0 13 rfl rfl)
theorem dX1_feed_14 : decode cX1_feed 14 = .ok (.ireturn, 1) := dk_172 (dk_at dksX1_feed_0 14 rfl rfl)
theorem dX1_feed_15 : decode cX1_feed 15 = .ok (.iconst 0, 1) := dk_3 (dk_at dksX1_feed_0 15 rfl rfl)
theorem dX1_feed_16 : decode cX1_feed 16 = .ok (.istore 6, 2) := dk_54 6 (dk_at dksX1_feed_0 16 rfl rfl)
theorem dX1_feed_18 : decode cX1_feed 18 = .ok (.iload 6, 2) := dk_21 6 (dk_at dksX1_feed_0 18 rfl rfl)
theorem dX1_feed_20 : decode cX1_feed 20 = .ok (.bipush 20, 2) := dk_16 20 (dk_at dksX1_feed_0 20 rfl rfl)
theorem dX1_feed_22 : decode cX1_feed 22 = .ok (.if_icmp .ge 83, 3) := dk_162 0 83 (dk_at dksX1_feed_1 0 rfl rfl)
theorem dX1_feed_25 : decode cX1_feed 25 = .ok (.iload 6, 2) := dk_21 6 (dk_at dksX1_feed_1 3 rfl rfl)
theorem dX1_feed_27 : decode cX1_feed 27 = .ok (.iconst 4, 1) := dk_7 (dk_at dksX1_feed_1 5 rfl rfl)
theorem dX1_feed_28 : decode cX1_feed 28 = .ok (.if_icmp .ge 7, 3) := dk_162 0 7 (dk_at dksX1_feed_1 6 rfl rfl)
theorem dX1_feed_31 : decode cX1_feed 31 = .ok (.iload_n 1, 1) := dk_27 (dk_at dksX1_feed_1 9 rfl rfl)
theorem dX1_feed_32 : decode cX1_feed 32 = .ok (.goto 39, 3) := dk_167 0 39 (dk_at dksX1_feed_1 10 rfl rfl)
theorem dX1_feed_35 : decode cX1_feed 35 = .ok (.iload 6, 2) := dk_21 6 (dk_at dksX1_feed_1 13 rfl rfl)
theorem dX1_feed_37 : decode cX1_feed 37 = .ok (.bipush 8, 2) := dk_16 8 (dk_at dksX1_feed_1 15 rfl rfl)
theorem dX1_feed_39 : decode cX1_feed 39 = .ok (.if_icmp .ge 7, 3) := dk_162 0 7 (dk_at dksX1_feed_1 17 rfl rfl)
theorem dX1_feed_42 : decode cX1_feed 42 = .ok (.iload_n 2, 1) := dk_28 (dk_at dksX1_feed_1 20 rfl rfl)
theorem dX1_feed_43 : decode cX1_feed 43 = .ok (.goto 28, 3) := dk_167 0 28 (dk_at dksX1_feed_1 21 rfl rfl)
theorem dX1_feed_46 : decode cX1_feed 46 = .ok (.iload 6, 2) := dk_21 6 (dk_at dksX1_feed_2 0 rfl rfl)
theorem dX1_feed_48 : decode cX1_feed 48 = .ok (.bipush 12, 2) := dk_16 12 (dk_at dksX1_feed_2 2 rfl rfl)
theorem dX1_feed_50 : decode cX1_feed 50 = .ok (.if_icmp .ge 7, 3) := dk_162 0 7 (dk_at dksX1_feed_2 4 rfl rfl)
theorem dX1_feed_53 : decode cX1_feed 53 = .ok (.iload_n 3, 1) := dk_29 (dk_at dksX1_feed_2 7 rfl rfl)
theorem dX1_feed_54 : decode cX1_feed 54 = .ok (.goto 17, 3) := dk_167 0 17 (dk_at dksX1_feed_2 8 rfl rfl)
theorem dX1_feed_57 : decode cX1_feed 57 = .ok (.iload 6, 2) := dk_21 6 (dk_at dksX1_feed_2 11 rfl rfl)
theorem dX1_feed_59 : decode cX1_feed 59 = .ok (.bipush 16, 2) := dk_16 16 (dk_at dksX1_feed_2 13 rfl rfl)
theorem dX1_feed_61 : decode cX1_feed 61 = .ok (.if_icmp .ge 8, 3) := dk_162 0 8 (dk_at dksX1_feed_2 15 rfl rfl)
theorem dX1_feed_64 : decode cX1_feed 64 = .ok (.iload 4, 2) := dk_21 4 (dk_at dksX1_feed_2 18 rfl rfl)
theorem dX1_feed_66 : decode cX1_feed 66 = .ok (.goto 5, 3) := dk_167 0 5 (dk_at dksX1_feed_2 20 rfl rfl)
theorem dX1_feed_69 : decode cX1_feed 69 = .ok (.iload 5, 2) := dk_21 5 (dk_at dksX1_feed_3 0 rfl rfl)
theorem dX1_feed_71 : decode cX1_feed 71 = .ok (.istore 7, 2) := dk_54 7 (dk_at dksX1_feed_3 2 rfl rfl)
theorem dX1_feed_73 : decode cX1_feed 73 = .ok (.aload_n 0, 1) := dk_42 (dk_at dksX1_feed_3 4 rfl rfl)
theorem dX1_feed_74 : decode cX1_feed 74 = .ok (.getfield 31, 3) := dk_180 0 31 (dk_at dksX1_feed_3 5 rfl rfl)
theorem dX1_feed_77 : decode cX1_feed 77 = .ok (.aload_n 0, 1) := dk_42 (dk_at dksX1_feed_3 8 rfl rfl)
theorem dX1_feed_78 : decode cX1_feed 78 = .ok (.getfield 51, 3) := dk_180 0 51 (dk_at dksX1_feed_3 9 rfl rfl)
theorem dX1_feed_81 : decode cX1_feed 81 = .ok (.iload 6, 2) := dk_21 6 (dk_at dksX1_feed_3 12 rfl rfl)
theorem dX1_feed_83 : decode cX1_feed 83 = .ok (.iadd, 1) := dk_96 (dk_at dksX1_feed_3 14 rfl rfl)
theorem dX1_feed_84 : decode cX1_feed 84 = .ok (.iload 7, 2) := dk_21 7 (dk_at dksX1_feed_3 15 rfl rfl)
theorem dX1_feed_86 : decode cX1_feed 86 = .ok (.bipush 24, 2) := dk_16 24 (dk_at dksX1_feed_3 17 rfl rfl)
theorem dX1_feed_88 : decode cX1_feed 88 = .ok (.bipush 8, 2) := dk_16 8 (dk_at dksX1_feed_3 19 rfl rfl)
theorem dX1_feed_90 : decode cX1_feed 90 = .ok (.iload 6, 2) := dk_21 6 (dk_at dksX1_feed_3 21 rfl rfl)
theorem dX1_feed_92 : decode cX1_feed 92 = .ok (.iconst 4, 1) := dk_7 (dk_at dksX1_feed_3 23 rfl rfl)
theorem dX1_feed_93 : decode cX1_feed 93 = .ok (.irem, 1) := dk_112 (dk_at dksX1_feed_4 0 rfl rfl)
theorem dX1_feed_94 : decode cX1_feed 94 = .ok (.imul, 1) := dk_104 (dk_at dksX1_feed_4 1 rfl rfl)
theorem dX1_feed_95 : decode cX1_feed 95 = .ok (.isub, 1) := dk_100 (dk_at dksX1_feed_4 2 rfl rfl)
theorem dX1_feed_96 : decode cX1_feed 96 = .ok (.ishr, 1) := dk_122 (dk_at dksX1_feed_4 3 rfl rfl)
theorem dX1_feed_97 : decode cX1_feed 97 = .ok (.i2b, 1) := dk_145 (dk_at dksX1_feed_4 4 rfl rfl)
theorem dX1_feed_98 : decode cX1_feed 98 = .ok (.bastore, 1) := dk_84 (dk_at dksX1_feed_4 5 rfl rfl)
theorem dX1_feed_99 : decode cX1_feed 99 = .ok (.iinc 6 1, 3) := dk_132 6 1 (dk_at dksX1_feed_4 6 rfl rfl)
theorem dX1_feed_102 : decode cX1_feed 102 = .ok (.goto (-84), 3) := dk_167 255 172 (dk_at dksX1_feed_4 9 rfl rfl)
theorem dX1_feed_105 : decode cX1_feed 105 = .ok (.aload_n 0, 1) := dk_42 (dk_at dksX1_feed_4 12 rfl rfl)
theorem dX1_feed_106 : decode cX1_feed 106 = .ok (.dup, 1) := dk_89 (dk_at dksX1_feed_4 13 rfl rfl)
theorem dX1_feed_107 : decode cX1_feed 107 = .ok (.getfield 51, 3) := dk_180 0 51 (dk_at dksX1_feed_4 14 rfl rfl)
theorem dX1_feed_110 : decode cX1_feed 110 = .ok (.bipush 20, 2) := dk_16 20 (dk_at dksX1_feed_4 17 rfl rfl)
theorem dX1_feed_112 : decode cX1_feed 112 = .ok (.iadd, 1) := dk_96 (dk_at dksX1_feed_4 19 rfl rfl)
theorem dX1_feed_113 : decode cX1_feed 113 = .ok (.putfield 51, 3) := dk_181 0 51 (dk_at dksX1_feed_4 20 rfl rfl)
theorem dX1_feed_116 : decode cX1_feed 116 = .ok (.aload_n 0, 1) := dk_42 (dk_at dksX1_feed_4 23 rfl rfl)
theorem dX1_feed_117 : decode cX1_feed 117 = .ok (.getfield 51, 3) := dk_180 0 51 (dk_at dksX1_feed_5 0 rfl rfl)
theorem dX1_feed_120 : decode cX1_feed 120 = .ok (.ireturn, 1) := dk_172 (dk_at dksX1_feed_5 3 rfl rfl)
abbrev cX1_fault : ByteArray := prog_1_method_9_code
def yX1_fault : MethodName := ⟨RX1, "fault", "()I"⟩
theorem dX1_fault_0 : decode cX1_fault 0 = .ok (.aload_n 0, 1) := by decide +kernel
theorem dX1_fault_1 : decode cX1_fault 1 = .ok (.getfield 35, 3) := by decide +kernel
theorem dX1_fault_4 : decode cX1_fault 4 = .ok (.ireturn, 1) := by decide +kernel
abbrev cX1_obey : ByteArray := prog_1_method_25_code
def yX1_obey : MethodName := ⟨RX1, "obey", "(I)Z"⟩
def dkwX1_obey_2 : List UInt8 := [181, 0, 27, 4, 172]
abbrev dktX1_obey_2 : List UInt8 := dkwX1_obey_2 ++ []
def dkwX1_obey_1 : List UInt8 := [180, 0, 38, 4, 92, 46, 4, 96, 79, 3, 172, 42, 3, 3, 42, 180, 0, 27, 182, 0, 214, 42, 27]
abbrev dktX1_obey_1 : List UInt8 := dkwX1_obey_1 ++ dktX1_obey_2
def dkwX1_obey_0 : List UInt8 := [27, 2, 42, 180, 0, 19, 180, 0, 75, 185, 0, 118, 1, 0, 4, 100, 184, 0, 134, 154, 0, 15, 42]
abbrev dktX1_obey_0 : List UInt8 := dkwX1_obey_0 ++ dktX1_obey_1
theorem dksX1_obey_0 : cX1_obey.data.toList.drop 0 = dktX1_obey_0 := by decide +kernel
theorem dksX1_obey_1 : cX1_obey.data.toList.drop 23 = dktX1_obey_1 := dk_seg dksX1_obey_0 23 rfl rfl
theorem dksX1_obey_2 : cX1_obey.data.toList.drop 46 = dktX1_obey_2 := dk_seg dksX1_obey_1 23 rfl rfl
theorem dX1_obey_0 : decode cX1_obey 0 = .ok (.iload_n 1, 1) := dk_27 (dk_at dksX1_obey_0 0 rfl rfl)
theorem dX1_obey_1 : decode cX1_obey 1 = .ok (.iconst (-1), 1) := dk_2 (dk_at dksX1_obey_0 1 rfl rfl)
theorem dX1_obey_2 : decode cX1_obey 2 = .ok (.aload_n 0, 1) := dk_42 (dk_at dksX1_obey_0 2 rfl rfl)
theorem dX1_obey_3 : decode cX1_obey 3 = .ok (.getfield 19, 3) := dk_180 0 19 (dk_at dksX1_obey_0 3 rfl rfl)
theorem dX1_obey_6 : decode cX1_obey 6 = .ok (.getfield 75, 3) := dk_180 0 75 (dk_at dksX1_obey_0 6 rfl rfl)
theorem dX1_obey_9 : decode cX1_obey 9 = .ok (.invokeinterface 118 1, 5) := by decide +kernel
theorem dX1_obey_14 : decode cX1_obey 14 = .ok (.iconst 1, 1) := dk_4 (dk_at dksX1_obey_0 14 rfl rfl)
theorem dX1_obey_15 : decode cX1_obey 15 = .ok (.isub, 1) := dk_100 (dk_at dksX1_obey_0 15 rfl rfl)
theorem dX1_obey_16 : decode cX1_obey 16 = .ok (.invokestatic 134, 3) := dk_184 0 134 (dk_at dksX1_obey_0 16 rfl rfl)
theorem dX1_obey_19 : decode cX1_obey 19 = .ok (.ifCond .ne 15, 3) := dk_154 0 15 (dk_at dksX1_obey_0 19 rfl rfl)
theorem dX1_obey_22 : decode cX1_obey 22 = .ok (.aload_n 0, 1) := dk_42 (dk_at dksX1_obey_0 22 rfl rfl)
theorem dX1_obey_23 : decode cX1_obey 23 = .ok (.getfield 38, 3) := dk_180 0 38 (dk_at dksX1_obey_1 0 rfl rfl)
theorem dX1_obey_26 : decode cX1_obey 26 = .ok (.iconst 1, 1) := dk_4 (dk_at dksX1_obey_1 3 rfl rfl)
theorem dX1_obey_27 : decode cX1_obey 27 = .ok (.dup2, 1) := dk_92 (dk_at dksX1_obey_1 4 rfl rfl)
theorem dX1_obey_28 : decode cX1_obey 28 = .ok (.iaload, 1) := dk_46 (dk_at dksX1_obey_1 5 rfl rfl)
theorem dX1_obey_29 : decode cX1_obey 29 = .ok (.iconst 1, 1) := dk_4 (dk_at dksX1_obey_1 6 rfl rfl)
theorem dX1_obey_30 : decode cX1_obey 30 = .ok (.iadd, 1) := dk_96 (dk_at dksX1_obey_1 7 rfl rfl)
theorem dX1_obey_31 : decode cX1_obey 31 = .ok (.iastore, 1) := dk_79 (dk_at dksX1_obey_1 8 rfl rfl)
theorem dX1_obey_32 : decode cX1_obey 32 = .ok (.iconst 0, 1) := dk_3 (dk_at dksX1_obey_1 9 rfl rfl)
theorem dX1_obey_33 : decode cX1_obey 33 = .ok (.ireturn, 1) := dk_172 (dk_at dksX1_obey_1 10 rfl rfl)
theorem dX1_obey_34 : decode cX1_obey 34 = .ok (.aload_n 0, 1) := dk_42 (dk_at dksX1_obey_1 11 rfl rfl)
theorem dX1_obey_35 : decode cX1_obey 35 = .ok (.iconst 0, 1) := dk_3 (dk_at dksX1_obey_1 12 rfl rfl)
theorem dX1_obey_36 : decode cX1_obey 36 = .ok (.iconst 0, 1) := dk_3 (dk_at dksX1_obey_1 13 rfl rfl)
theorem dX1_obey_37 : decode cX1_obey 37 = .ok (.aload_n 0, 1) := dk_42 (dk_at dksX1_obey_1 14 rfl rfl)
theorem dX1_obey_38 : decode cX1_obey 38 = .ok (.getfield 27, 3) := dk_180 0 27 (dk_at dksX1_obey_1 15 rfl rfl)
theorem dX1_obey_41 : decode cX1_obey 41 = .ok (.invokevirtual 214, 3) := dk_182 0 214 (dk_at dksX1_obey_1 18 rfl rfl)
theorem dX1_obey_44 : decode cX1_obey 44 = .ok (.aload_n 0, 1) := dk_42 (dk_at dksX1_obey_1 21 rfl rfl)
theorem dX1_obey_45 : decode cX1_obey 45 = .ok (.iload_n 1, 1) := dk_27 (dk_at dksX1_obey_1 22 rfl rfl)
theorem dX1_obey_46 : decode cX1_obey 46 = .ok (.putfield 27, 3) := dk_181 0 27 (dk_at dksX1_obey_2 0 rfl rfl)
theorem dX1_obey_49 : decode cX1_obey 49 = .ok (.iconst 1, 1) := dk_4 (dk_at dksX1_obey_2 3 rfl rfl)
theorem dX1_obey_50 : decode cX1_obey 50 = .ok (.ireturn, 1) := dk_172 (dk_at dksX1_obey_2 4 rfl rfl)
abbrev cX1_in : ByteArray := prog_1_method_1_code
def yX1_in : MethodName := ⟨RX1, "in", "(III)Z"⟩
def dkwX1_in_0 : List UInt8 := [26, 27, 161, 0, 12, 26, 28, 163, 0, 7, 4, 167, 0, 4, 3, 172]
abbrev dktX1_in_0 : List UInt8 := dkwX1_in_0 ++ []
theorem dksX1_in_0 : cX1_in.data.toList.drop 0 = dktX1_in_0 := by decide +kernel
theorem dX1_in_0 : decode cX1_in 0 = .ok (.iload_n 0, 1) := dk_26 (dk_at dksX1_in_0 0 rfl rfl)
theorem dX1_in_1 : decode cX1_in 1 = .ok (.iload_n 1, 1) := dk_27 (dk_at dksX1_in_0 1 rfl rfl)
theorem dX1_in_2 : decode cX1_in 2 = .ok (.if_icmp .lt 12, 3) := dk_161 0 12 (dk_at dksX1_in_0 2 rfl rfl)
theorem dX1_in_5 : decode cX1_in 5 = .ok (.iload_n 0, 1) := dk_26 (dk_at dksX1_in_0 5 rfl rfl)
theorem dX1_in_6 : decode cX1_in 6 = .ok (.iload_n 2, 1) := dk_28 (dk_at dksX1_in_0 6 rfl rfl)
theorem dX1_in_7 : decode cX1_in 7 = .ok (.if_icmp .gt 7, 3) := dk_163 0 7 (dk_at dksX1_in_0 7 rfl rfl)
theorem dX1_in_10 : decode cX1_in 10 = .ok (.iconst 1, 1) := dk_4 (dk_at dksX1_in_0 10 rfl rfl)
theorem dX1_in_11 : decode cX1_in 11 = .ok (.goto 4, 3) := dk_167 0 4 (dk_at dksX1_in_0 11 rfl rfl)
theorem dX1_in_14 : decode cX1_in 14 = .ok (.iconst 0, 1) := dk_3 (dk_at dksX1_in_0 14 rfl rfl)
theorem dX1_in_15 : decode cX1_in 15 = .ok (.ireturn, 1) := dk_172 (dk_at dksX1_in_0 15 rfl rfl)
abbrev cX1_keep : ByteArray := prog_1_method_23_code
def yX1_keep : MethodName := ⟨RX1, "keep", "(III)V"⟩
def dkwX1_keep_2 : List UInt8 := [185, 0, 211, 2, 0, 87, 177]
abbrev dktX1_keep_2 : List UInt8 := dkwX1_keep_2 ++ []
def dkwX1_keep_1 : List UInt8 := [87, 42, 180, 0, 44, 185, 0, 118, 1, 0, 16, 40, 164, 0, 14, 42, 180, 0, 44, 3]
abbrev dktX1_keep_1 : List UInt8 := dkwX1_keep_1 ++ dktX1_keep_2
def dkwX1_keep_0 : List UInt8 := [42, 180, 0, 44, 6, 188, 10, 89, 3, 27, 79, 89, 4, 28, 79, 89, 5, 29, 79, 185, 0, 207, 2, 0]
abbrev dktX1_keep_0 : List UInt8 := dkwX1_keep_0 ++ dktX1_keep_1
theorem dksX1_keep_0 : cX1_keep.data.toList.drop 0 = dktX1_keep_0 := by decide +kernel
theorem dksX1_keep_1 : cX1_keep.data.toList.drop 24 = dktX1_keep_1 := dk_seg dksX1_keep_0 24 rfl rfl
theorem dksX1_keep_2 : cX1_keep.data.toList.drop 44 = dktX1_keep_2 := dk_seg dksX1_keep_1 20 rfl rfl
theorem dX1_keep_0 : decode cX1_keep 0 = .ok (.aload_n 0, 1) := dk_42 (dk_at dksX1_keep_0 0 rfl rfl)
theorem dX1_keep_1 : decode cX1_keep 1 = .ok (.getfield 44, 3) := dk_180 0 44 (dk_at dksX1_keep_0 1 rfl rfl)
theorem dX1_keep_4 : decode cX1_keep 4 = .ok (.iconst 3, 1) := dk_6 (dk_at dksX1_keep_0 4 rfl rfl)
theorem dX1_keep_5 : decode cX1_keep 5 = .ok (.newarray .int, 2) := dk_188_10 (dk_at dksX1_keep_0 5 rfl rfl)
theorem dX1_keep_7 : decode cX1_keep 7 = .ok (.dup, 1) := dk_89 (dk_at dksX1_keep_0 7 rfl rfl)
theorem dX1_keep_8 : decode cX1_keep 8 = .ok (.iconst 0, 1) := dk_3 (dk_at dksX1_keep_0 8 rfl rfl)
theorem dX1_keep_9 : decode cX1_keep 9 = .ok (.iload_n 1, 1) := dk_27 (dk_at dksX1_keep_0 9 rfl rfl)
theorem dX1_keep_10 : decode cX1_keep 10 = .ok (.iastore, 1) := dk_79 (dk_at dksX1_keep_0 10 rfl rfl)
theorem dX1_keep_11 : decode cX1_keep 11 = .ok (.dup, 1) := dk_89 (dk_at dksX1_keep_0 11 rfl rfl)
theorem dX1_keep_12 : decode cX1_keep 12 = .ok (.iconst 1, 1) := dk_4 (dk_at dksX1_keep_0 12 rfl rfl)
theorem dX1_keep_13 : decode cX1_keep 13 = .ok (.iload_n 2, 1) := dk_28 (dk_at dksX1_keep_0 13 rfl rfl)
theorem dX1_keep_14 : decode cX1_keep 14 = .ok (.iastore, 1) := dk_79 (dk_at dksX1_keep_0 14 rfl rfl)
theorem dX1_keep_15 : decode cX1_keep 15 = .ok (.dup, 1) := dk_89 (dk_at dksX1_keep_0 15 rfl rfl)
theorem dX1_keep_16 : decode cX1_keep 16 = .ok (.iconst 2, 1) := dk_5 (dk_at dksX1_keep_0 16 rfl rfl)
theorem dX1_keep_17 : decode cX1_keep 17 = .ok (.iload_n 3, 1) := dk_29 (dk_at dksX1_keep_0 17 rfl rfl)
theorem dX1_keep_18 : decode cX1_keep 18 = .ok (.iastore, 1) := dk_79 (dk_at dksX1_keep_0 18 rfl rfl)
theorem dX1_keep_19 : decode cX1_keep 19 = .ok (.invokeinterface 207 2, 5) := by decide +kernel
theorem dX1_keep_24 : decode cX1_keep 24 = .ok (.pop, 1) := dk_87 (dk_at dksX1_keep_1 0 rfl rfl)
theorem dX1_keep_25 : decode cX1_keep 25 = .ok (.aload_n 0, 1) := dk_42 (dk_at dksX1_keep_1 1 rfl rfl)
theorem dX1_keep_26 : decode cX1_keep 26 = .ok (.getfield 44, 3) := dk_180 0 44 (dk_at dksX1_keep_1 2 rfl rfl)
theorem dX1_keep_29 : decode cX1_keep 29 = .ok (.invokeinterface 118 1, 5) := by decide +kernel
theorem dX1_keep_34 : decode cX1_keep 34 = .ok (.bipush 40, 2) := dk_16 40 (dk_at dksX1_keep_1 10 rfl rfl)
theorem dX1_keep_36 : decode cX1_keep 36 = .ok (.if_icmp .le 14, 3) := dk_164 0 14 (dk_at dksX1_keep_1 12 rfl rfl)
theorem dX1_keep_39 : decode cX1_keep 39 = .ok (.aload_n 0, 1) := dk_42 (dk_at dksX1_keep_1 15 rfl rfl)
theorem dX1_keep_40 : decode cX1_keep 40 = .ok (.getfield 44, 3) := dk_180 0 44 (dk_at dksX1_keep_1 16 rfl rfl)
theorem dX1_keep_43 : decode cX1_keep 43 = .ok (.iconst 0, 1) := dk_3 (dk_at dksX1_keep_1 19 rfl rfl)
theorem dX1_keep_44 : decode cX1_keep 44 = .ok (.invokeinterface 211 2, 5) := by decide +kernel
theorem dX1_keep_49 : decode cX1_keep 49 = .ok (.pop, 1) := dk_87 (dk_at dksX1_keep_2 5 rfl rfl)
theorem dX1_keep_50 : decode cX1_keep 50 = .ok (.return_, 1) := dk_177 (dk_at dksX1_keep_2 6 rfl rfl)
abbrev cX1_moon : ByteArray := prog_1_method_26_code
def yX1_moon : MethodName := ⟨RX1, "moon", "(I)I"⟩
def dkwX1_moon_1 : List UInt8 := [28, 182, 0, 214, 42, 27, 181, 0, 84, 28, 172]
abbrev dktX1_moon_1 : List UInt8 := dkwX1_moon_1 ++ []
def dkwX1_moon_0 : List UInt8 := [27, 3, 16, 7, 184, 0, 134, 154, 0, 9, 42, 4, 182, 0, 218, 172, 42, 180, 0, 84, 61, 42, 4, 3]
abbrev dktX1_moon_0 : List UInt8 := dkwX1_moon_0 ++ dktX1_moon_1
theorem dksX1_moon_0 : cX1_moon.data.toList.drop 0 = dktX1_moon_0 := by decide +kernel
theorem dksX1_moon_1 : cX1_moon.data.toList.drop 24 = dktX1_moon_1 := dk_seg dksX1_moon_0 24 rfl rfl
theorem dX1_moon_0 : decode cX1_moon 0 = .ok (.iload_n 1, 1) := dk_27 (dk_at dksX1_moon_0 0 rfl rfl)
theorem dX1_moon_1 : decode cX1_moon 1 = .ok (.iconst 0, 1) := dk_3 (dk_at dksX1_moon_0 1 rfl rfl)
theorem dX1_moon_2 : decode cX1_moon 2 = .ok (.bipush 7, 2) := dk_16 7 (dk_at dksX1_moon_0 2 rfl rfl)
theorem dX1_moon_4 : decode cX1_moon 4 = .ok (.invokestatic 134, 3) := dk_184 0 134 (dk_at dksX1_moon_0 4 rfl rfl)
theorem dX1_moon_7 : decode cX1_moon 7 = .ok (.ifCond .ne 9, 3) := dk_154 0 9 (dk_at dksX1_moon_0 7 rfl rfl)
theorem dX1_moon_10 : decode cX1_moon 10 = .ok (.aload_n 0, 1) := dk_42 (dk_at dksX1_moon_0 10 rfl rfl)
theorem dX1_moon_11 : decode cX1_moon 11 = .ok (.iconst 1, 1) := dk_4 (dk_at dksX1_moon_0 11 rfl rfl)
theorem dX1_moon_12 : decode cX1_moon 12 = .ok (.invokevirtual 218, 3) := dk_182 0 218 (dk_at dksX1_moon_0 12 rfl rfl)
theorem dX1_moon_15 : decode cX1_moon 15 = .ok (.ireturn, 1) := dk_172 (dk_at dksX1_moon_0 15 rfl rfl)
theorem dX1_moon_16 : decode cX1_moon 16 = .ok (.aload_n 0, 1) := dk_42 (dk_at dksX1_moon_0 16 rfl rfl)
theorem dX1_moon_17 : decode cX1_moon 17 = .ok (.getfield 84, 3) := dk_180 0 84 (dk_at dksX1_moon_0 17 rfl rfl)
theorem dX1_moon_20 : decode cX1_moon 20 = .ok (.istore_n 2, 1) := dk_61 (dk_at dksX1_moon_0 20 rfl rfl)
theorem dX1_moon_21 : decode cX1_moon 21 = .ok (.aload_n 0, 1) := dk_42 (dk_at dksX1_moon_0 21 rfl rfl)
theorem dX1_moon_22 : decode cX1_moon 22 = .ok (.iconst 1, 1) := dk_4 (dk_at dksX1_moon_0 22 rfl rfl)
theorem dX1_moon_23 : decode cX1_moon 23 = .ok (.iconst 0, 1) := dk_3 (dk_at dksX1_moon_0 23 rfl rfl)
theorem dX1_moon_24 : decode cX1_moon 24 = .ok (.iload_n 2, 1) := dk_28 (dk_at dksX1_moon_1 0 rfl rfl)
theorem dX1_moon_25 : decode cX1_moon 25 = .ok (.invokevirtual 214, 3) := dk_182 0 214 (dk_at dksX1_moon_1 1 rfl rfl)
theorem dX1_moon_28 : decode cX1_moon 28 = .ok (.aload_n 0, 1) := dk_42 (dk_at dksX1_moon_1 4 rfl rfl)
theorem dX1_moon_29 : decode cX1_moon 29 = .ok (.iload_n 1, 1) := dk_27 (dk_at dksX1_moon_1 5 rfl rfl)
theorem dX1_moon_30 : decode cX1_moon 30 = .ok (.putfield 84, 3) := dk_181 0 84 (dk_at dksX1_moon_1 6 rfl rfl)
theorem dX1_moon_33 : decode cX1_moon 33 = .ok (.iload_n 2, 1) := dk_28 (dk_at dksX1_moon_1 9 rfl rfl)
theorem dX1_moon_34 : decode cX1_moon 34 = .ok (.ireturn, 1) := dk_172 (dk_at dksX1_moon_1 10 rfl rfl)
abbrev cX1_refuse : ByteArray := prog_1_method_24_code
def yX1_refuse : MethodName := ⟨RX1, "refuse", "(I)I"⟩
def dkwX1_refuse_0 : List UInt8 := [42, 180, 0, 38, 27, 92, 46, 4, 96, 79, 2, 172]
abbrev dktX1_refuse_0 : List UInt8 := dkwX1_refuse_0 ++ []
theorem dksX1_refuse_0 : cX1_refuse.data.toList.drop 0 = dktX1_refuse_0 := by decide +kernel
theorem dX1_refuse_0 : decode cX1_refuse 0 = .ok (.aload_n 0, 1) := dk_42 (dk_at dksX1_refuse_0 0 rfl rfl)
theorem dX1_refuse_1 : decode cX1_refuse 1 = .ok (.getfield 38, 3) := dk_180 0 38 (dk_at dksX1_refuse_0 1 rfl rfl)
theorem dX1_refuse_4 : decode cX1_refuse 4 = .ok (.iload_n 1, 1) := dk_27 (dk_at dksX1_refuse_0 4 rfl rfl)
theorem dX1_refuse_5 : decode cX1_refuse 5 = .ok (.dup2, 1) := dk_92 (dk_at dksX1_refuse_0 5 rfl rfl)
theorem dX1_refuse_6 : decode cX1_refuse 6 = .ok (.iaload, 1) := dk_46 (dk_at dksX1_refuse_0 6 rfl rfl)
theorem dX1_refuse_7 : decode cX1_refuse 7 = .ok (.iconst 1, 1) := dk_4 (dk_at dksX1_refuse_0 7 rfl rfl)
theorem dX1_refuse_8 : decode cX1_refuse 8 = .ok (.iadd, 1) := dk_96 (dk_at dksX1_refuse_0 8 rfl rfl)
theorem dX1_refuse_9 : decode cX1_refuse 9 = .ok (.iastore, 1) := dk_79 (dk_at dksX1_refuse_0 9 rfl rfl)
theorem dX1_refuse_10 : decode cX1_refuse 10 = .ok (.iconst (-1), 1) := dk_2 (dk_at dksX1_refuse_0 10 rfl rfl)
theorem dX1_refuse_11 : decode cX1_refuse 11 = .ok (.ireturn, 1) := dk_172 (dk_at dksX1_refuse_0 11 rfl rfl)
abbrev cX1_wet : ByteArray := prog_1_method_27_code
def yX1_wet : MethodName := ⟨RX1, "wet", "(Z)Z"⟩
def dkwX1_wet_1 : List UInt8 := [181, 0, 90, 28, 172]
abbrev dktX1_wet_1 : List UInt8 := dkwX1_wet_1 ++ []
def dkwX1_wet_0 : List UInt8 := [42, 180, 0, 90, 61, 42, 5, 3, 28, 153, 0, 7, 4, 167, 0, 4, 3, 182, 0, 214, 42, 27]
abbrev dktX1_wet_0 : List UInt8 := dkwX1_wet_0 ++ dktX1_wet_1
theorem dksX1_wet_0 : cX1_wet.data.toList.drop 0 = dktX1_wet_0 := by decide +kernel
theorem dksX1_wet_1 : cX1_wet.data.toList.drop 22 = dktX1_wet_1 := dk_seg dksX1_wet_0 22 rfl rfl
theorem dX1_wet_0 : decode cX1_wet 0 = .ok (.aload_n 0, 1) := dk_42 (dk_at dksX1_wet_0 0 rfl rfl)
theorem dX1_wet_1 : decode cX1_wet 1 = .ok (.getfield 90, 3) := dk_180 0 90 (dk_at dksX1_wet_0 1 rfl rfl)
theorem dX1_wet_4 : decode cX1_wet 4 = .ok (.istore_n 2, 1) := dk_61 (dk_at dksX1_wet_0 4 rfl rfl)
theorem dX1_wet_5 : decode cX1_wet 5 = .ok (.aload_n 0, 1) := dk_42 (dk_at dksX1_wet_0 5 rfl rfl)
theorem dX1_wet_6 : decode cX1_wet 6 = .ok (.iconst 2, 1) := dk_5 (dk_at dksX1_wet_0 6 rfl rfl)
theorem dX1_wet_7 : decode cX1_wet 7 = .ok (.iconst 0, 1) := dk_3 (dk_at dksX1_wet_0 7 rfl rfl)
theorem dX1_wet_8 : decode cX1_wet 8 = .ok (.iload_n 2, 1) := dk_28 (dk_at dksX1_wet_0 8 rfl rfl)
theorem dX1_wet_9 : decode cX1_wet 9 = .ok (.ifCond .eq 7, 3) := dk_153 0 7 (dk_at dksX1_wet_0 9 rfl rfl)
theorem dX1_wet_12 : decode cX1_wet 12 = .ok (.iconst 1, 1) := dk_4 (dk_at dksX1_wet_0 12 rfl rfl)
theorem dX1_wet_13 : decode cX1_wet 13 = .ok (.goto 4, 3) := dk_167 0 4 (dk_at dksX1_wet_0 13 rfl rfl)
theorem dX1_wet_16 : decode cX1_wet 16 = .ok (.iconst 0, 1) := dk_3 (dk_at dksX1_wet_0 16 rfl rfl)
theorem dX1_wet_17 : decode cX1_wet 17 = .ok (.invokevirtual 214, 3) := dk_182 0 214 (dk_at dksX1_wet_0 17 rfl rfl)
theorem dX1_wet_20 : decode cX1_wet 20 = .ok (.aload_n 0, 1) := dk_42 (dk_at dksX1_wet_0 20 rfl rfl)
theorem dX1_wet_21 : decode cX1_wet 21 = .ok (.iload_n 1, 1) := dk_27 (dk_at dksX1_wet_0 21 rfl rfl)
theorem dX1_wet_22 : decode cX1_wet 22 = .ok (.putfield 90, 3) := dk_181 0 90 (dk_at dksX1_wet_1 0 rfl rfl)
theorem dX1_wet_25 : decode cX1_wet 25 = .ok (.iload_n 2, 1) := dk_28 (dk_at dksX1_wet_1 3 rfl rfl)
theorem dX1_wet_26 : decode cX1_wet 26 = .ok (.ireturn, 1) := dk_172 (dk_at dksX1_wet_1 4 rfl rfl)
abbrev cX1_undo : ByteArray := prog_1_method_31_code
def yX1_undo : MethodName := ⟨RX1, "undo", "()I"⟩
def dkwX1_undo_7 : List UInt8 := [185, 0, 118, 1, 0, 172]
abbrev dktX1_undo_7 : List UInt8 := dkwX1_undo_7 ++ []
def dkwX1_undo_6 : List UInt8 := [180, 0, 115, 43, 4, 46, 185, 0, 145, 2, 0, 192, 0, 149, 43, 5, 46, 181, 0, 171, 42, 180, 0, 44]
abbrev dktX1_undo_6 : List UInt8 := dkwX1_undo_6 ++ dktX1_undo_7
def dkwX1_undo_5 : List UInt8 := [167, 0, 44, 42, 180, 0, 19, 180, 0, 156, 43, 4, 46, 43, 5, 46, 79, 167, 0, 27, 42, 180, 0, 19]
abbrev dktX1_undo_5 : List UInt8 := dkwX1_undo_5 ++ dktX1_undo_6
def dkwX1_undo_4 : List UInt8 := [4, 160, 0, 7, 4, 167, 0, 4, 3, 181, 0, 90, 167, 0, 54, 42, 43, 5, 46, 181, 0, 87]
abbrev dktX1_undo_4 : List UInt8 := dkwX1_undo_4 ++ dktX1_undo_5
def dkwX1_undo_3 : List UInt8 := [42, 43, 5, 46, 181, 0, 27, 167, 0, 83, 42, 43, 5, 46, 181, 0, 84, 167, 0, 73, 42, 43, 5, 46]
abbrev dktX1_undo_3 : List UInt8 := dkwX1_undo_3 ++ dktX1_undo_4
def dkwX1_undo_2 : List UInt8 := [170, 0, 0, 0, 0, 0, 101, 0, 0, 0, 0, 0, 0, 0, 4, 0, 0, 0, 35, 0, 0, 0, 45, 0, 0, 0, 55, 0, 0, 0, 74, 0, 0, 0, 84]
abbrev dktX1_undo_2 : List UInt8 := dkwX1_undo_2 ++ dktX1_undo_3
def dkwX1_undo_1 : List UInt8 := [185, 0, 118, 1, 0, 4, 100, 185, 0, 211, 2, 0, 192, 0, 151, 76, 43, 3, 46]
abbrev dktX1_undo_1 : List UInt8 := dkwX1_undo_1 ++ dktX1_undo_2
def dkwX1_undo_0 : List UInt8 := [42, 180, 0, 44, 185, 0, 78, 1, 0, 153, 0, 5, 2, 172, 42, 180, 0, 44, 42, 180, 0, 44]
abbrev dktX1_undo_0 : List UInt8 := dkwX1_undo_0 ++ dktX1_undo_1
theorem dksX1_undo_0 : cX1_undo.data.toList.drop 0 = dktX1_undo_0 := by decide +kernel
theorem dksX1_undo_1 : cX1_undo.data.toList.drop 22 = dktX1_undo_1 := dk_seg dksX1_undo_0 22 rfl rfl
theorem dksX1_undo_2 : cX1_undo.data.toList.drop 41 = dktX1_undo_2 := dk_seg dksX1_undo_1 19 rfl rfl
theorem dksX1_undo_3 : cX1_undo.data.toList.drop 76 = dktX1_undo_3 := dk_seg dksX1_undo_2 35 rfl rfl
theorem dksX1_undo_4 : cX1_undo.data.toList.drop 100 = dktX1_undo_4 := dk_seg dksX1_undo_3 24 rfl rfl
theorem dksX1_undo_5 : cX1_undo.data.toList.drop 122 = dktX1_undo_5 := dk_seg dksX1_undo_4 22 rfl rfl
theorem dksX1_undo_6 : cX1_undo.data.toList.drop 146 = dktX1_undo_6 := dk_seg dksX1_undo_5 24 rfl rfl
theorem dksX1_undo_7 : cX1_undo.data.toList.drop 170 = dktX1_undo_7 := dk_seg dksX1_undo_6 24 rfl rfl
theorem dX1_undo_0 : decode cX1_undo 0 = .ok (.aload_n 0, 1) := dk_42 (dk_at dksX1_undo_0 0 rfl rfl)
theorem dX1_undo_1 : decode cX1_undo 1 = .ok (.getfield 44, 3) := dk_180 0 44 (dk_at dksX1_undo_0 1 rfl rfl)
theorem dX1_undo_4 : decode cX1_undo 4 = .ok (.invokeinterface 78 1, 5) := by decide +kernel
theorem dX1_undo_9 : decode cX1_undo 9 = .ok (.ifCond .eq 5, 3) := dk_153 0 5 (dk_at dksX1_undo_0 9 rfl rfl)
theorem dX1_undo_12 : decode cX1_undo 12 = .ok (.iconst (-1), 1) := dk_2 (dk_at dksX1_undo_0 12 rfl rfl)
theorem dX1_undo_13 : decode cX1_undo 13 = .ok (.ireturn, 1) := dk_172 (dk_at dksX1_undo_0 13 rfl rfl)
theorem dX1_undo_14 : decode cX1_undo 14 = .ok (.aload_n 0, 1) := dk_42 (dk_at dksX1_undo_0 14 rfl rfl)
theorem dX1_undo_15 : decode cX1_undo 15 = .ok (.getfield 44, 3) := dk_180 0 44 (dk_at dksX1_undo_0 15 rfl rfl)
theorem dX1_undo_18 : decode cX1_undo 18 = .ok (.aload_n 0, 1) := dk_42 (dk_at dksX1_undo_0 18 rfl rfl)
theorem dX1_undo_19 : decode cX1_undo 19 = .ok (.getfield 44, 3) := dk_180 0 44 (dk_at dksX1_undo_0 19 rfl rfl)
theorem dX1_undo_22 : decode cX1_undo 22 = .ok (.invokeinterface 118 1, 5) := by decide +kernel
theorem dX1_undo_27 : decode cX1_undo 27 = .ok (.iconst 1, 1) := dk_4 (dk_at dksX1_undo_1 5 rfl rfl)
theorem dX1_undo_28 : decode cX1_undo 28 = .ok (.isub, 1) := dk_100 (dk_at dksX1_undo_1 6 rfl rfl)
theorem dX1_undo_29 : decode cX1_undo 29 = .ok (.invokeinterface 211 2, 5) := by decide +kernel
theorem dX1_undo_34 : decode cX1_undo 34 = .ok (.checkcast 151, 3) := dk_192 0 151 (dk_at dksX1_undo_1 12 rfl rfl)
theorem dX1_undo_37 : decode cX1_undo 37 = .ok (.astore_n 1, 1) := dk_76 (dk_at dksX1_undo_1 15 rfl rfl)
theorem dX1_undo_38 : decode cX1_undo 38 = .ok (.aload_n 1, 1) := dk_43 (dk_at dksX1_undo_1 16 rfl rfl)
theorem dX1_undo_39 : decode cX1_undo 39 = .ok (.iconst 0, 1) := dk_3 (dk_at dksX1_undo_1 17 rfl rfl)
theorem dX1_undo_40 : decode cX1_undo 40 = .ok (.iaload, 1) := dk_46 (dk_at dksX1_undo_1 18 rfl rfl)
theorem dX1_undo_41 : decode cX1_undo 41 = .ok (.tableswitch 101 0 4 #[35, 45, 55, 74, 84], 35) := by decide +kernel
theorem dX1_undo_76 : decode cX1_undo 76 = .ok (.aload_n 0, 1) := dk_42 (dk_at dksX1_undo_3 0 rfl rfl)
theorem dX1_undo_77 : decode cX1_undo 77 = .ok (.aload_n 1, 1) := dk_43 (dk_at dksX1_undo_3 1 rfl rfl)
theorem dX1_undo_78 : decode cX1_undo 78 = .ok (.iconst 2, 1) := dk_5 (dk_at dksX1_undo_3 2 rfl rfl)
theorem dX1_undo_79 : decode cX1_undo 79 = .ok (.iaload, 1) := dk_46 (dk_at dksX1_undo_3 3 rfl rfl)
theorem dX1_undo_80 : decode cX1_undo 80 = .ok (.putfield 27, 3) := dk_181 0 27 (dk_at dksX1_undo_3 4 rfl rfl)
theorem dX1_undo_83 : decode cX1_undo 83 = .ok (.goto 83, 3) := dk_167 0 83 (dk_at dksX1_undo_3 7 rfl rfl)
theorem dX1_undo_86 : decode cX1_undo 86 = .ok (.aload_n 0, 1) := dk_42 (dk_at dksX1_undo_3 10 rfl rfl)
theorem dX1_undo_87 : decode cX1_undo 87 = .ok (.aload_n 1, 1) := dk_43 (dk_at dksX1_undo_3 11 rfl rfl)
theorem dX1_undo_88 : decode cX1_undo 88 = .ok (.iconst 2, 1) := dk_5 (dk_at dksX1_undo_3 12 rfl rfl)
theorem dX1_undo_89 : decode cX1_undo 89 = .ok (.iaload, 1) := dk_46 (dk_at dksX1_undo_3 13 rfl rfl)
theorem dX1_undo_90 : decode cX1_undo 90 = .ok (.putfield 84, 3) := dk_181 0 84 (dk_at dksX1_undo_3 14 rfl rfl)
theorem dX1_undo_93 : decode cX1_undo 93 = .ok (.goto 73, 3) := dk_167 0 73 (dk_at dksX1_undo_3 17 rfl rfl)
theorem dX1_undo_96 : decode cX1_undo 96 = .ok (.aload_n 0, 1) := dk_42 (dk_at dksX1_undo_3 20 rfl rfl)
theorem dX1_undo_97 : decode cX1_undo 97 = .ok (.aload_n 1, 1) := dk_43 (dk_at dksX1_undo_3 21 rfl rfl)
theorem dX1_undo_98 : decode cX1_undo 98 = .ok (.iconst 2, 1) := dk_5 (dk_at dksX1_undo_3 22 rfl rfl)
theorem dX1_undo_99 : decode cX1_undo 99 = .ok (.iaload, 1) := dk_46 (dk_at dksX1_undo_3 23 rfl rfl)
theorem dX1_undo_100 : decode cX1_undo 100 = .ok (.iconst 1, 1) := dk_4 (dk_at dksX1_undo_4 0 rfl rfl)
theorem dX1_undo_101 : decode cX1_undo 101 = .ok (.if_icmp .ne 7, 3) := dk_160 0 7 (dk_at dksX1_undo_4 1 rfl rfl)
theorem dX1_undo_104 : decode cX1_undo 104 = .ok (.iconst 1, 1) := dk_4 (dk_at dksX1_undo_4 4 rfl rfl)
theorem dX1_undo_105 : decode cX1_undo 105 = .ok (.goto 4, 3) := dk_167 0 4 (dk_at dksX1_undo_4 5 rfl rfl)
theorem dX1_undo_108 : decode cX1_undo 108 = .ok (.iconst 0, 1) := dk_3 (dk_at dksX1_undo_4 8 rfl rfl)
theorem dX1_undo_109 : decode cX1_undo 109 = .ok (.putfield 90, 3) := dk_181 0 90 (dk_at dksX1_undo_4 9 rfl rfl)
theorem dX1_undo_112 : decode cX1_undo 112 = .ok (.goto 54, 3) := dk_167 0 54 (dk_at dksX1_undo_4 12 rfl rfl)
theorem dX1_undo_115 : decode cX1_undo 115 = .ok (.aload_n 0, 1) := dk_42 (dk_at dksX1_undo_4 15 rfl rfl)
theorem dX1_undo_116 : decode cX1_undo 116 = .ok (.aload_n 1, 1) := dk_43 (dk_at dksX1_undo_4 16 rfl rfl)
theorem dX1_undo_117 : decode cX1_undo 117 = .ok (.iconst 2, 1) := dk_5 (dk_at dksX1_undo_4 17 rfl rfl)
theorem dX1_undo_118 : decode cX1_undo 118 = .ok (.iaload, 1) := dk_46 (dk_at dksX1_undo_4 18 rfl rfl)
theorem dX1_undo_119 : decode cX1_undo 119 = .ok (.putfield 87, 3) := dk_181 0 87 (dk_at dksX1_undo_4 19 rfl rfl)
theorem dX1_undo_122 : decode cX1_undo 122 = .ok (.goto 44, 3) := dk_167 0 44 (dk_at dksX1_undo_5 0 rfl rfl)
theorem dX1_undo_125 : decode cX1_undo 125 = .ok (.aload_n 0, 1) := dk_42 (dk_at dksX1_undo_5 3 rfl rfl)
theorem dX1_undo_126 : decode cX1_undo 126 = .ok (.getfield 19, 3) := dk_180 0 19 (dk_at dksX1_undo_5 4 rfl rfl)
theorem dX1_undo_129 : decode cX1_undo 129 = .ok (.getfield 156, 3) := dk_180 0 156 (dk_at dksX1_undo_5 7 rfl rfl)
theorem dX1_undo_132 : decode cX1_undo 132 = .ok (.aload_n 1, 1) := dk_43 (dk_at dksX1_undo_5 10 rfl rfl)
theorem dX1_undo_133 : decode cX1_undo 133 = .ok (.iconst 1, 1) := dk_4 (dk_at dksX1_undo_5 11 rfl rfl)
theorem dX1_undo_134 : decode cX1_undo 134 = .ok (.iaload, 1) := dk_46 (dk_at dksX1_undo_5 12 rfl rfl)
theorem dX1_undo_135 : decode cX1_undo 135 = .ok (.aload_n 1, 1) := dk_43 (dk_at dksX1_undo_5 13 rfl rfl)
theorem dX1_undo_136 : decode cX1_undo 136 = .ok (.iconst 2, 1) := dk_5 (dk_at dksX1_undo_5 14 rfl rfl)
theorem dX1_undo_137 : decode cX1_undo 137 = .ok (.iaload, 1) := dk_46 (dk_at dksX1_undo_5 15 rfl rfl)
theorem dX1_undo_138 : decode cX1_undo 138 = .ok (.iastore, 1) := dk_79 (dk_at dksX1_undo_5 16 rfl rfl)
theorem dX1_undo_139 : decode cX1_undo 139 = .ok (.goto 27, 3) := dk_167 0 27 (dk_at dksX1_undo_5 17 rfl rfl)
theorem dX1_undo_142 : decode cX1_undo 142 = .ok (.aload_n 0, 1) := dk_42 (dk_at dksX1_undo_5 20 rfl rfl)
theorem dX1_undo_143 : decode cX1_undo 143 = .ok (.getfield 19, 3) := dk_180 0 19 (dk_at dksX1_undo_5 21 rfl rfl)
theorem dX1_undo_146 : decode cX1_undo 146 = .ok (.getfield 115, 3) := dk_180 0 115 (dk_at dksX1_undo_6 0 rfl rfl)
theorem dX1_undo_149 : decode cX1_undo 149 = .ok (.aload_n 1, 1) := dk_43 (dk_at dksX1_undo_6 3 rfl rfl)
theorem dX1_undo_150 : decode cX1_undo 150 = .ok (.iconst 1, 1) := dk_4 (dk_at dksX1_undo_6 4 rfl rfl)
theorem dX1_undo_151 : decode cX1_undo 151 = .ok (.iaload, 1) := dk_46 (dk_at dksX1_undo_6 5 rfl rfl)
theorem dX1_undo_152 : decode cX1_undo 152 = .ok (.invokeinterface 145 2, 5) := by decide +kernel
theorem dX1_undo_157 : decode cX1_undo 157 = .ok (.checkcast 149, 3) := dk_192 0 149 (dk_at dksX1_undo_6 11 rfl rfl)
theorem dX1_undo_160 : decode cX1_undo 160 = .ok (.aload_n 1, 1) := dk_43 (dk_at dksX1_undo_6 14 rfl rfl)
theorem dX1_undo_161 : decode cX1_undo 161 = .ok (.iconst 2, 1) := dk_5 (dk_at dksX1_undo_6 15 rfl rfl)
theorem dX1_undo_162 : decode cX1_undo 162 = .ok (.iaload, 1) := dk_46 (dk_at dksX1_undo_6 16 rfl rfl)
theorem dX1_undo_163 : decode cX1_undo 163 = .ok (.putfield 171, 3) := dk_181 0 171 (dk_at dksX1_undo_6 17 rfl rfl)
theorem dX1_undo_166 : decode cX1_undo 166 = .ok (.aload_n 0, 1) := dk_42 (dk_at dksX1_undo_6 20 rfl rfl)
theorem dX1_undo_167 : decode cX1_undo 167 = .ok (.getfield 44, 3) := dk_180 0 44 (dk_at dksX1_undo_6 21 rfl rfl)
theorem dX1_undo_170 : decode cX1_undo 170 = .ok (.invokeinterface 118 1, 5) := by decide +kernel
theorem dX1_undo_175 : decode cX1_undo 175 = .ok (.ireturn, 1) := dk_172 (dk_at dksX1_undo_7 5 rfl rfl)
abbrev cX1_never : ByteArray := prog_1_method_36_code
def yX1_never : MethodName := ⟨RX1, "never", "()I"⟩
def dkwX1_never_2 : List UInt8 := [18, 12, 161, 0, 9, 28, 4, 29, 120, 128, 61, 132, 3, 1, 167, 255, 206, 28, 172]
abbrev dktX1_never_2 : List UInt8 := dkwX1_never_2 ++ []
def dkwX1_never_1 : List UInt8 := [162, 0, 40, 43, 42, 180, 0, 19, 180, 0, 122, 29, 185, 0, 145, 2, 0, 192, 0, 151, 182, 0, 221]
abbrev dktX1_never_1 : List UInt8 := dkwX1_never_1 ++ dktX1_never_2
def dkwX1_never_0 : List UInt8 := [42, 182, 0, 128, 76, 3, 61, 3, 62, 29, 42, 180, 0, 19, 180, 0, 122, 185, 0, 118, 1, 0]
abbrev dktX1_never_0 : List UInt8 := dkwX1_never_0 ++ dktX1_never_1
theorem dksX1_never_0 : cX1_never.data.toList.drop 0 = dktX1_never_0 := by decide +kernel
theorem dksX1_never_1 : cX1_never.data.toList.drop 22 = dktX1_never_1 := dk_seg dksX1_never_0 22 rfl rfl
theorem dksX1_never_2 : cX1_never.data.toList.drop 45 = dktX1_never_2 := dk_seg dksX1_never_1 23 rfl rfl
theorem dX1_never_0 : decode cX1_never 0 = .ok (.aload_n 0, 1) := dk_42 (dk_at dksX1_never_0 0 rfl rfl)
theorem dX1_never_1 : decode cX1_never 1 = .ok (.invokevirtual 128, 3) := dk_182 0 128 (dk_at dksX1_never_0 1 rfl rfl)
theorem dX1_never_4 : decode cX1_never 4 = .ok (.astore_n 1, 1) := dk_76 (dk_at dksX1_never_0 4 rfl rfl)
theorem dX1_never_5 : decode cX1_never 5 = .ok (.iconst 0, 1) := dk_3 (dk_at dksX1_never_0 5 rfl rfl)
theorem dX1_never_6 : decode cX1_never 6 = .ok (.istore_n 2, 1) := dk_61 (dk_at dksX1_never_0 6 rfl rfl)
theorem dX1_never_7 : decode cX1_never 7 = .ok (.iconst 0, 1) := dk_3 (dk_at dksX1_never_0 7 rfl rfl)
theorem dX1_never_8 : decode cX1_never 8 = .ok (.istore_n 3, 1) := dk_62 (dk_at dksX1_never_0 8 rfl rfl)
theorem dX1_never_9 : decode cX1_never 9 = .ok (.iload_n 3, 1) := dk_29 (dk_at dksX1_never_0 9 rfl rfl)
theorem dX1_never_10 : decode cX1_never 10 = .ok (.aload_n 0, 1) := dk_42 (dk_at dksX1_never_0 10 rfl rfl)
theorem dX1_never_11 : decode cX1_never 11 = .ok (.getfield 19, 3) := dk_180 0 19 (dk_at dksX1_never_0 11 rfl rfl)
theorem dX1_never_14 : decode cX1_never 14 = .ok (.getfield 122, 3) := dk_180 0 122 (dk_at dksX1_never_0 14 rfl rfl)
theorem dX1_never_17 : decode cX1_never 17 = .ok (.invokeinterface 118 1, 5) := by decide +kernel
theorem dX1_never_22 : decode cX1_never 22 = .ok (.if_icmp .ge 40, 3) := dk_162 0 40 (dk_at dksX1_never_1 0 rfl rfl)
theorem dX1_never_25 : decode cX1_never 25 = .ok (.aload_n 1, 1) := dk_43 (dk_at dksX1_never_1 3 rfl rfl)
theorem dX1_never_26 : decode cX1_never 26 = .ok (.aload_n 0, 1) := dk_42 (dk_at dksX1_never_1 4 rfl rfl)
theorem dX1_never_27 : decode cX1_never 27 = .ok (.getfield 19, 3) := dk_180 0 19 (dk_at dksX1_never_1 5 rfl rfl)
theorem dX1_never_30 : decode cX1_never 30 = .ok (.getfield 122, 3) := dk_180 0 122 (dk_at dksX1_never_1 8 rfl rfl)
theorem dX1_never_33 : decode cX1_never 33 = .ok (.iload_n 3, 1) := dk_29 (dk_at dksX1_never_1 11 rfl rfl)
theorem dX1_never_34 : decode cX1_never 34 = .ok (.invokeinterface 145 2, 5) := by decide +kernel
theorem dX1_never_39 : decode cX1_never 39 = .ok (.checkcast 151, 3) := dk_192 0 151 (dk_at dksX1_never_1 17 rfl rfl)
theorem dX1_never_42 : decode cX1_never 42 = .ok (.invokevirtual 221, 3) := dk_182 0 221 (dk_at dksX1_never_1 20 rfl rfl)
theorem dX1_never_45 : decode cX1_never 45 = .ok (.ldc 12, 2) := dk_18 12 (dk_at dksX1_never_2 0 rfl rfl)
theorem dX1_never_47 : decode cX1_never 47 = .ok (.if_icmp .lt 9, 3) := dk_161 0 9 (dk_at dksX1_never_2 2 rfl rfl)
theorem dX1_never_50 : decode cX1_never 50 = .ok (.iload_n 2, 1) := dk_28 (dk_at dksX1_never_2 5 rfl rfl)
theorem dX1_never_51 : decode cX1_never 51 = .ok (.iconst 1, 1) := dk_4 (dk_at dksX1_never_2 6 rfl rfl)
theorem dX1_never_52 : decode cX1_never 52 = .ok (.iload_n 3, 1) := dk_29 (dk_at dksX1_never_2 7 rfl rfl)
theorem dX1_never_53 : decode cX1_never 53 = .ok (.ishl, 1) := dk_120 (dk_at dksX1_never_2 8 rfl rfl)
theorem dX1_never_54 : decode cX1_never 54 = .ok (.ior, 1) := dk_128 (dk_at dksX1_never_2 9 rfl rfl)
theorem dX1_never_55 : decode cX1_never 55 = .ok (.istore_n 2, 1) := dk_61 (dk_at dksX1_never_2 10 rfl rfl)
theorem dX1_never_56 : decode cX1_never 56 = .ok (.iinc 3 1, 3) := dk_132 3 1 (dk_at dksX1_never_2 11 rfl rfl)
theorem dX1_never_59 : decode cX1_never 59 = .ok (.goto (-50), 3) := dk_167 255 206 (dk_at dksX1_never_2 14 rfl rfl)
theorem dX1_never_62 : decode cX1_never 62 = .ok (.iload_n 2, 1) := dk_28 (dk_at dksX1_never_2 17 rfl rfl)
theorem dX1_never_63 : decode cX1_never 63 = .ok (.ireturn, 1) := dk_172 (dk_at dksX1_never_2 18 rfl rfl)
abbrev cX1_night : ByteArray := prog_1_method_10_code
def yX1_night : MethodName := ⟨RX1, "night", "()LWingTrams$Night;"⟩
def dkwX1_night_0 : List UInt8 := [187, 0, 100, 89, 42, 183, 0, 102, 182, 0, 105, 176]
abbrev dktX1_night_0 : List UInt8 := dkwX1_night_0 ++ []
theorem dksX1_night_0 : cX1_night.data.toList.drop 0 = dktX1_night_0 := by decide +kernel
theorem dX1_night_0 : decode cX1_night 0 = .ok (.new 100, 3) := dk_187 0 100 (dk_at dksX1_night_0 0 rfl rfl)
theorem dX1_night_3 : decode cX1_night 3 = .ok (.dup, 1) := dk_89 (dk_at dksX1_night_0 3 rfl rfl)
theorem dX1_night_4 : decode cX1_night 4 = .ok (.aload_n 0, 1) := dk_42 (dk_at dksX1_night_0 4 rfl rfl)
theorem dX1_night_5 : decode cX1_night 5 = .ok (.invokespecial 102, 3) := dk_183 0 102 (dk_at dksX1_night_0 5 rfl rfl)
theorem dX1_night_8 : decode cX1_night 8 = .ok (.invokevirtual 105, 3) := dk_182 0 105 (dk_at dksX1_night_0 8 rfl rfl)
theorem dX1_night_11 : decode cX1_night 11 = .ok (.areturn, 1) := dk_176 (dk_at dksX1_night_0 11 rfl rfl)
abbrev cX1_isOf : ByteArray := prog_1_method_4_code
def yX1_isOf : MethodName := ⟨RX1, "isOf", "(II)Z"⟩
def dkwX1_isOf_0 : List UInt8 := [26, 27, 122, 4, 126, 4, 160, 0, 7, 4, 167, 0, 4, 3, 172]
abbrev dktX1_isOf_0 : List UInt8 := dkwX1_isOf_0 ++ []
theorem dksX1_isOf_0 : cX1_isOf.data.toList.drop 0 = dktX1_isOf_0 := by decide +kernel
theorem dX1_isOf_0 : decode cX1_isOf 0 = .ok (.iload_n 0, 1) := dk_26 (dk_at dksX1_isOf_0 0 rfl rfl)
theorem dX1_isOf_1 : decode cX1_isOf 1 = .ok (.iload_n 1, 1) := dk_27 (dk_at dksX1_isOf_0 1 rfl rfl)
theorem dX1_isOf_2 : decode cX1_isOf 2 = .ok (.ishr, 1) := dk_122 (dk_at dksX1_isOf_0 2 rfl rfl)
theorem dX1_isOf_3 : decode cX1_isOf 3 = .ok (.iconst 1, 1) := dk_4 (dk_at dksX1_isOf_0 3 rfl rfl)
theorem dX1_isOf_4 : decode cX1_isOf 4 = .ok (.iand, 1) := dk_126 (dk_at dksX1_isOf_0 4 rfl rfl)
theorem dX1_isOf_5 : decode cX1_isOf 5 = .ok (.iconst 1, 1) := dk_4 (dk_at dksX1_isOf_0 5 rfl rfl)
theorem dX1_isOf_6 : decode cX1_isOf 6 = .ok (.if_icmp .ne 7, 3) := dk_160 0 7 (dk_at dksX1_isOf_0 6 rfl rfl)
theorem dX1_isOf_9 : decode cX1_isOf 9 = .ok (.iconst 1, 1) := dk_4 (dk_at dksX1_isOf_0 9 rfl rfl)
theorem dX1_isOf_10 : decode cX1_isOf 10 = .ok (.goto 4, 3) := dk_167 0 4 (dk_at dksX1_isOf_0 10 rfl rfl)
theorem dX1_isOf_13 : decode cX1_isOf 13 = .ok (.iconst 0, 1) := dk_3 (dk_at dksX1_isOf_0 13 rfl rfl)
theorem dX1_isOf_14 : decode cX1_isOf 14 = .ok (.ireturn, 1) := dk_172 (dk_at dksX1_isOf_0 14 rfl rfl)
abbrev cX1_vital : ByteArray := prog_1_method_46_code
def yX1_vital : MethodName := ⟨RX1, "vital", "()I"⟩
def dkwX1_vital_1 : List UInt8 := [182, 1, 23, 158, 0, 9, 27, 4, 28, 120, 128, 60, 132, 2, 1, 167, 255, 223, 27, 172]
abbrev dktX1_vital_1 : List UInt8 := dkwX1_vital_1 ++ []
def dkwX1_vital_0 : List UInt8 := [3, 60, 3, 61, 28, 42, 180, 0, 19, 180, 0, 115, 185, 0, 118, 1, 0, 162, 0, 23, 42, 28]
abbrev dktX1_vital_0 : List UInt8 := dkwX1_vital_0 ++ dktX1_vital_1
theorem dksX1_vital_0 : cX1_vital.data.toList.drop 0 = dktX1_vital_0 := by decide +kernel
theorem dksX1_vital_1 : cX1_vital.data.toList.drop 22 = dktX1_vital_1 := dk_seg dksX1_vital_0 22 rfl rfl
theorem dX1_vital_0 : decode cX1_vital 0 = .ok (.iconst 0, 1) := dk_3 (dk_at dksX1_vital_0 0 rfl rfl)
theorem dX1_vital_1 : decode cX1_vital 1 = .ok (.istore_n 1, 1) := dk_60 (dk_at dksX1_vital_0 1 rfl rfl)
theorem dX1_vital_2 : decode cX1_vital 2 = .ok (.iconst 0, 1) := dk_3 (dk_at dksX1_vital_0 2 rfl rfl)
theorem dX1_vital_3 : decode cX1_vital 3 = .ok (.istore_n 2, 1) := dk_61 (dk_at dksX1_vital_0 3 rfl rfl)
theorem dX1_vital_4 : decode cX1_vital 4 = .ok (.iload_n 2, 1) := dk_28 (dk_at dksX1_vital_0 4 rfl rfl)
theorem dX1_vital_5 : decode cX1_vital 5 = .ok (.aload_n 0, 1) := dk_42 (dk_at dksX1_vital_0 5 rfl rfl)
theorem dX1_vital_6 : decode cX1_vital 6 = .ok (.getfield 19, 3) := dk_180 0 19 (dk_at dksX1_vital_0 6 rfl rfl)
theorem dX1_vital_9 : decode cX1_vital 9 = .ok (.getfield 115, 3) := dk_180 0 115 (dk_at dksX1_vital_0 9 rfl rfl)
theorem dX1_vital_12 : decode cX1_vital 12 = .ok (.invokeinterface 118 1, 5) := by decide +kernel
theorem dX1_vital_17 : decode cX1_vital 17 = .ok (.if_icmp .ge 23, 3) := dk_162 0 23 (dk_at dksX1_vital_0 17 rfl rfl)
theorem dX1_vital_20 : decode cX1_vital 20 = .ok (.aload_n 0, 1) := dk_42 (dk_at dksX1_vital_0 20 rfl rfl)
theorem dX1_vital_21 : decode cX1_vital 21 = .ok (.iload_n 2, 1) := dk_28 (dk_at dksX1_vital_0 21 rfl rfl)
theorem dX1_vital_22 : decode cX1_vital 22 = .ok (.invokevirtual 279, 3) := dk_182 1 23 (dk_at dksX1_vital_1 0 rfl rfl)
theorem dX1_vital_25 : decode cX1_vital 25 = .ok (.ifCond .le 9, 3) := dk_158 0 9 (dk_at dksX1_vital_1 3 rfl rfl)
theorem dX1_vital_28 : decode cX1_vital 28 = .ok (.iload_n 1, 1) := dk_27 (dk_at dksX1_vital_1 6 rfl rfl)
theorem dX1_vital_29 : decode cX1_vital 29 = .ok (.iconst 1, 1) := dk_4 (dk_at dksX1_vital_1 7 rfl rfl)
theorem dX1_vital_30 : decode cX1_vital 30 = .ok (.iload_n 2, 1) := dk_28 (dk_at dksX1_vital_1 8 rfl rfl)
theorem dX1_vital_31 : decode cX1_vital 31 = .ok (.ishl, 1) := dk_120 (dk_at dksX1_vital_1 9 rfl rfl)
theorem dX1_vital_32 : decode cX1_vital 32 = .ok (.ior, 1) := dk_128 (dk_at dksX1_vital_1 10 rfl rfl)
theorem dX1_vital_33 : decode cX1_vital 33 = .ok (.istore_n 1, 1) := dk_60 (dk_at dksX1_vital_1 11 rfl rfl)
theorem dX1_vital_34 : decode cX1_vital 34 = .ok (.iinc 2 1, 3) := dk_132 2 1 (dk_at dksX1_vital_1 12 rfl rfl)
theorem dX1_vital_37 : decode cX1_vital 37 = .ok (.goto (-33), 3) := dk_167 255 223 (dk_at dksX1_vital_1 15 rfl rfl)
theorem dX1_vital_40 : decode cX1_vital 40 = .ok (.iload_n 1, 1) := dk_27 (dk_at dksX1_vital_1 18 rfl rfl)
theorem dX1_vital_41 : decode cX1_vital 41 = .ok (.ireturn, 1) := dk_172 (dk_at dksX1_vital_1 19 rfl rfl)
abbrev cX1_worthOf : ByteArray := prog_1_method_44_code
def yX1_worthOf : MethodName := ⟨RX1, "worthOf", "(I)I"⟩
def dkwX1_worthOf_1 : List UInt8 := [120, 128, 181, 1, 20, 29, 44, 182, 0, 105, 182, 0, 131, 100, 172]
abbrev dktX1_worthOf_1 : List UInt8 := dkwX1_worthOf_1 ++ []
def dkwX1_worthOf_0 : List UInt8 := [187, 0, 100, 89, 42, 183, 0, 102, 77, 44, 182, 0, 105, 182, 0, 131, 62, 44, 89, 180, 1, 20, 4, 27]
abbrev dktX1_worthOf_0 : List UInt8 := dkwX1_worthOf_0 ++ dktX1_worthOf_1
theorem dksX1_worthOf_0 : cX1_worthOf.data.toList.drop 0 = dktX1_worthOf_0 := by decide +kernel
theorem dksX1_worthOf_1 : cX1_worthOf.data.toList.drop 24 = dktX1_worthOf_1 := dk_seg dksX1_worthOf_0 24 rfl rfl
theorem dX1_worthOf_0 : decode cX1_worthOf 0 = .ok (.new 100, 3) := dk_187 0 100 (dk_at dksX1_worthOf_0 0 rfl rfl)
theorem dX1_worthOf_3 : decode cX1_worthOf 3 = .ok (.dup, 1) := dk_89 (dk_at dksX1_worthOf_0 3 rfl rfl)
theorem dX1_worthOf_4 : decode cX1_worthOf 4 = .ok (.aload_n 0, 1) := dk_42 (dk_at dksX1_worthOf_0 4 rfl rfl)
theorem dX1_worthOf_5 : decode cX1_worthOf 5 = .ok (.invokespecial 102, 3) := dk_183 0 102 (dk_at dksX1_worthOf_0 5 rfl rfl)
theorem dX1_worthOf_8 : decode cX1_worthOf 8 = .ok (.astore_n 2, 1) := dk_77 (dk_at dksX1_worthOf_0 8 rfl rfl)
theorem dX1_worthOf_9 : decode cX1_worthOf 9 = .ok (.aload_n 2, 1) := dk_44 (dk_at dksX1_worthOf_0 9 rfl rfl)
theorem dX1_worthOf_10 : decode cX1_worthOf 10 = .ok (.invokevirtual 105, 3) := dk_182 0 105 (dk_at dksX1_worthOf_0 10 rfl rfl)
theorem dX1_worthOf_13 : decode cX1_worthOf 13 = .ok (.invokevirtual 131, 3) := dk_182 0 131 (dk_at dksX1_worthOf_0 13 rfl rfl)
theorem dX1_worthOf_16 : decode cX1_worthOf 16 = .ok (.istore_n 3, 1) := dk_62 (dk_at dksX1_worthOf_0 16 rfl rfl)
theorem dX1_worthOf_17 : decode cX1_worthOf 17 = .ok (.aload_n 2, 1) := dk_44 (dk_at dksX1_worthOf_0 17 rfl rfl)
theorem dX1_worthOf_18 : decode cX1_worthOf 18 = .ok (.dup, 1) := dk_89 (dk_at dksX1_worthOf_0 18 rfl rfl)
theorem dX1_worthOf_19 : decode cX1_worthOf 19 = .ok (.getfield 276, 3) := dk_180 1 20 (dk_at dksX1_worthOf_0 19 rfl rfl)
theorem dX1_worthOf_22 : decode cX1_worthOf 22 = .ok (.iconst 1, 1) := dk_4 (dk_at dksX1_worthOf_0 22 rfl rfl)
theorem dX1_worthOf_23 : decode cX1_worthOf 23 = .ok (.iload_n 1, 1) := dk_27 (dk_at dksX1_worthOf_0 23 rfl rfl)
theorem dX1_worthOf_24 : decode cX1_worthOf 24 = .ok (.ishl, 1) := dk_120 (dk_at dksX1_worthOf_1 0 rfl rfl)
theorem dX1_worthOf_25 : decode cX1_worthOf 25 = .ok (.ior, 1) := dk_128 (dk_at dksX1_worthOf_1 1 rfl rfl)
theorem dX1_worthOf_26 : decode cX1_worthOf 26 = .ok (.putfield 276, 3) := dk_181 1 20 (dk_at dksX1_worthOf_1 2 rfl rfl)
theorem dX1_worthOf_29 : decode cX1_worthOf 29 = .ok (.iload_n 3, 1) := dk_29 (dk_at dksX1_worthOf_1 5 rfl rfl)
theorem dX1_worthOf_30 : decode cX1_worthOf 30 = .ok (.aload_n 2, 1) := dk_44 (dk_at dksX1_worthOf_1 6 rfl rfl)
theorem dX1_worthOf_31 : decode cX1_worthOf 31 = .ok (.invokevirtual 105, 3) := dk_182 0 105 (dk_at dksX1_worthOf_1 7 rfl rfl)
theorem dX1_worthOf_34 : decode cX1_worthOf 34 = .ok (.invokevirtual 131, 3) := dk_182 0 131 (dk_at dksX1_worthOf_1 10 rfl rfl)
theorem dX1_worthOf_37 : decode cX1_worthOf 37 = .ok (.isub, 1) := dk_100 (dk_at dksX1_worthOf_1 13 rfl rfl)
theorem dX1_worthOf_38 : decode cX1_worthOf 38 = .ok (.ireturn, 1) := dk_172 (dk_at dksX1_worthOf_1 14 rfl rfl)
abbrev cX1_forget : ByteArray := prog_1_method_48_code
def yX1_forget : MethodName := ⟨RX1, "forget", "()V"⟩
def dkwX1_forget_0 : List UInt8 := [42, 187, 0, 41, 89, 183, 0, 43, 181, 0, 48, 177]
abbrev dktX1_forget_0 : List UInt8 := dkwX1_forget_0 ++ []
theorem dksX1_forget_0 : cX1_forget.data.toList.drop 0 = dktX1_forget_0 := by decide +kernel
theorem dX1_forget_0 : decode cX1_forget 0 = .ok (.aload_n 0, 1) := dk_42 (dk_at dksX1_forget_0 0 rfl rfl)
theorem dX1_forget_1 : decode cX1_forget 1 = .ok (.new 41, 3) := dk_187 0 41 (dk_at dksX1_forget_0 1 rfl rfl)
theorem dX1_forget_4 : decode cX1_forget 4 = .ok (.dup, 1) := dk_89 (dk_at dksX1_forget_0 4 rfl rfl)
theorem dX1_forget_5 : decode cX1_forget 5 = .ok (.invokespecial 43, 3) := dk_183 0 43 (dk_at dksX1_forget_0 5 rfl rfl)
theorem dX1_forget_8 : decode cX1_forget 8 = .ok (.putfield 48, 3) := dk_181 0 48 (dk_at dksX1_forget_0 8 rfl rfl)
theorem dX1_forget_11 : decode cX1_forget 11 = .ok (.return_, 1) := dk_177 (dk_at dksX1_forget_0 11 rfl rfl)
abbrev cX1_fits : ByteArray := prog_1_method_50_code
def yX1_fits : MethodName := ⟨RX1, "fits", "()I"⟩
def dkwX1_fits_2 : List UInt8 := [182, 1, 29, 153, 0, 9, 28, 4, 29, 120, 128, 61, 132, 3, 1, 167, 255, 222, 28, 172]
abbrev dktX1_fits_2 : List UInt8 := dkwX1_fits_2 ++ []
def dkwX1_fits_1 : List UInt8 := [61, 3, 62, 29, 42, 180, 0, 19, 180, 0, 75, 185, 0, 118, 1, 0, 162, 0, 24, 42, 43, 29]
abbrev dktX1_fits_1 : List UInt8 := dkwX1_fits_1 ++ dktX1_fits_2
def dkwX1_fits_0 : List UInt8 := [187, 0, 100, 89, 42, 183, 0, 102, 76, 42, 43, 2, 182, 1, 29, 153, 0, 8, 16, 16, 167, 0, 4, 3]
abbrev dktX1_fits_0 : List UInt8 := dkwX1_fits_0 ++ dktX1_fits_1
theorem dksX1_fits_0 : cX1_fits.data.toList.drop 0 = dktX1_fits_0 := by decide +kernel
theorem dksX1_fits_1 : cX1_fits.data.toList.drop 24 = dktX1_fits_1 := dk_seg dksX1_fits_0 24 rfl rfl
theorem dksX1_fits_2 : cX1_fits.data.toList.drop 46 = dktX1_fits_2 := dk_seg dksX1_fits_1 22 rfl rfl
theorem dX1_fits_0 : decode cX1_fits 0 = .ok (.new 100, 3) := dk_187 0 100 (dk_at dksX1_fits_0 0 rfl rfl)
theorem dX1_fits_3 : decode cX1_fits 3 = .ok (.dup, 1) := dk_89 (dk_at dksX1_fits_0 3 rfl rfl)
theorem dX1_fits_4 : decode cX1_fits 4 = .ok (.aload_n 0, 1) := dk_42 (dk_at dksX1_fits_0 4 rfl rfl)
theorem dX1_fits_5 : decode cX1_fits 5 = .ok (.invokespecial 102, 3) := dk_183 0 102 (dk_at dksX1_fits_0 5 rfl rfl)
theorem dX1_fits_8 : decode cX1_fits 8 = .ok (.astore_n 1, 1) := dk_76 (dk_at dksX1_fits_0 8 rfl rfl)
theorem dX1_fits_9 : decode cX1_fits 9 = .ok (.aload_n 0, 1) := dk_42 (dk_at dksX1_fits_0 9 rfl rfl)
theorem dX1_fits_10 : decode cX1_fits 10 = .ok (.aload_n 1, 1) := dk_43 (dk_at dksX1_fits_0 10 rfl rfl)
theorem dX1_fits_11 : decode cX1_fits 11 = .ok (.iconst (-1), 1) := dk_2 (dk_at dksX1_fits_0 11 rfl rfl)
theorem dX1_fits_12 : decode cX1_fits 12 = .ok (.invokevirtual 285, 3) := dk_182 1 29 (dk_at dksX1_fits_0 12 rfl rfl)
theorem dX1_fits_15 : decode cX1_fits 15 = .ok (.ifCond .eq 8, 3) := dk_153 0 8 (dk_at dksX1_fits_0 15 rfl rfl)
theorem dX1_fits_18 : decode cX1_fits 18 = .ok (.bipush 16, 2) := dk_16 16 (dk_at dksX1_fits_0 18 rfl rfl)
theorem dX1_fits_20 : decode cX1_fits 20 = .ok (.goto 4, 3) := dk_167 0 4 (dk_at dksX1_fits_0 20 rfl rfl)
theorem dX1_fits_23 : decode cX1_fits 23 = .ok (.iconst 0, 1) := dk_3 (dk_at dksX1_fits_0 23 rfl rfl)
theorem dX1_fits_24 : decode cX1_fits 24 = .ok (.istore_n 2, 1) := dk_61 (dk_at dksX1_fits_1 0 rfl rfl)
theorem dX1_fits_25 : decode cX1_fits 25 = .ok (.iconst 0, 1) := dk_3 (dk_at dksX1_fits_1 1 rfl rfl)
theorem dX1_fits_26 : decode cX1_fits 26 = .ok (.istore_n 3, 1) := dk_62 (dk_at dksX1_fits_1 2 rfl rfl)
theorem dX1_fits_27 : decode cX1_fits 27 = .ok (.iload_n 3, 1) := dk_29 (dk_at dksX1_fits_1 3 rfl rfl)
theorem dX1_fits_28 : decode cX1_fits 28 = .ok (.aload_n 0, 1) := dk_42 (dk_at dksX1_fits_1 4 rfl rfl)
theorem dX1_fits_29 : decode cX1_fits 29 = .ok (.getfield 19, 3) := dk_180 0 19 (dk_at dksX1_fits_1 5 rfl rfl)
theorem dX1_fits_32 : decode cX1_fits 32 = .ok (.getfield 75, 3) := dk_180 0 75 (dk_at dksX1_fits_1 8 rfl rfl)
theorem dX1_fits_35 : decode cX1_fits 35 = .ok (.invokeinterface 118 1, 5) := by decide +kernel
theorem dX1_fits_40 : decode cX1_fits 40 = .ok (.if_icmp .ge 24, 3) := dk_162 0 24 (dk_at dksX1_fits_1 16 rfl rfl)
theorem dX1_fits_43 : decode cX1_fits 43 = .ok (.aload_n 0, 1) := dk_42 (dk_at dksX1_fits_1 19 rfl rfl)
theorem dX1_fits_44 : decode cX1_fits 44 = .ok (.aload_n 1, 1) := dk_43 (dk_at dksX1_fits_1 20 rfl rfl)
theorem dX1_fits_45 : decode cX1_fits 45 = .ok (.iload_n 3, 1) := dk_29 (dk_at dksX1_fits_1 21 rfl rfl)
theorem dX1_fits_46 : decode cX1_fits 46 = .ok (.invokevirtual 285, 3) := dk_182 1 29 (dk_at dksX1_fits_2 0 rfl rfl)
theorem dX1_fits_49 : decode cX1_fits 49 = .ok (.ifCond .eq 9, 3) := dk_153 0 9 (dk_at dksX1_fits_2 3 rfl rfl)
theorem dX1_fits_52 : decode cX1_fits 52 = .ok (.iload_n 2, 1) := dk_28 (dk_at dksX1_fits_2 6 rfl rfl)
theorem dX1_fits_53 : decode cX1_fits 53 = .ok (.iconst 1, 1) := dk_4 (dk_at dksX1_fits_2 7 rfl rfl)
theorem dX1_fits_54 : decode cX1_fits 54 = .ok (.iload_n 3, 1) := dk_29 (dk_at dksX1_fits_2 8 rfl rfl)
theorem dX1_fits_55 : decode cX1_fits 55 = .ok (.ishl, 1) := dk_120 (dk_at dksX1_fits_2 9 rfl rfl)
theorem dX1_fits_56 : decode cX1_fits 56 = .ok (.ior, 1) := dk_128 (dk_at dksX1_fits_2 10 rfl rfl)
theorem dX1_fits_57 : decode cX1_fits 57 = .ok (.istore_n 2, 1) := dk_61 (dk_at dksX1_fits_2 11 rfl rfl)
theorem dX1_fits_58 : decode cX1_fits 58 = .ok (.iinc 3 1, 3) := dk_132 3 1 (dk_at dksX1_fits_2 12 rfl rfl)
theorem dX1_fits_61 : decode cX1_fits 61 = .ok (.goto (-34), 3) := dk_167 255 222 (dk_at dksX1_fits_2 15 rfl rfl)
theorem dX1_fits_64 : decode cX1_fits 64 = .ok (.iload_n 2, 1) := dk_28 (dk_at dksX1_fits_2 18 rfl rfl)
theorem dX1_fits_65 : decode cX1_fits 65 = .ok (.ireturn, 1) := dk_172 (dk_at dksX1_fits_2 19 rfl rfl)
abbrev cX1_fits_2 : ByteArray := prog_1_method_49_code
def yX1_fits_2 : MethodName := ⟨RX1, "fits", "(LWingTrams$Night;I)Z"⟩
def dkwX1_fits_2_3 : List UInt8 := [192, 0, 151, 5, 46, 159, 0, 5, 3, 172, 132, 3, 1, 167, 255, 186, 4, 172]
abbrev dktX1_fits_2_3 : List UInt8 := dkwX1_fits_2_3 ++ []
def dkwX1_fits_2_2 : List UInt8 := [185, 0, 145, 2, 0, 192, 0, 151, 4, 46, 182, 0, 203, 42, 180, 0, 48, 29, 185, 0, 145, 2, 0]
abbrev dktX1_fits_2_2 : List UInt8 := dkwX1_fits_2_2 ++ dktX1_fits_2_3
def dkwX1_fits_2_1 : List UInt8 := [162, 0, 63, 43, 42, 180, 0, 48, 29, 185, 0, 145, 2, 0, 192, 0, 151, 3, 46, 42, 180, 0, 48, 29]
abbrev dktX1_fits_2_1 : List UInt8 := dkwX1_fits_2_1 ++ dktX1_fits_2_2
def dkwX1_fits_2_0 : List UInt8 := [43, 28, 181, 1, 26, 43, 182, 0, 105, 87, 3, 62, 29, 42, 180, 0, 48, 185, 0, 118, 1, 0]
abbrev dktX1_fits_2_0 : List UInt8 := dkwX1_fits_2_0 ++ dktX1_fits_2_1
theorem dksX1_fits_2_0 : cX1_fits_2.data.toList.drop 0 = dktX1_fits_2_0 := by decide +kernel
theorem dksX1_fits_2_1 : cX1_fits_2.data.toList.drop 22 = dktX1_fits_2_1 := dk_seg dksX1_fits_2_0 22 rfl rfl
theorem dksX1_fits_2_2 : cX1_fits_2.data.toList.drop 46 = dktX1_fits_2_2 := dk_seg dksX1_fits_2_1 24 rfl rfl
theorem dksX1_fits_2_3 : cX1_fits_2.data.toList.drop 69 = dktX1_fits_2_3 := dk_seg dksX1_fits_2_2 23 rfl rfl
theorem dX1_fits_2_0 : decode cX1_fits_2 0 = .ok (.aload_n 1, 1) := dk_43 (dk_at dksX1_fits_2_0 0 rfl rfl)
theorem dX1_fits_2_1 : decode cX1_fits_2 1 = .ok (.iload_n 2, 1) := dk_28 (dk_at dksX1_fits_2_0 1 rfl rfl)
theorem dX1_fits_2_2 : decode cX1_fits_2 2 = .ok (.putfield 282, 3) := dk_181 1 26 (dk_at dksX1_fits_2_0 2 rfl rfl)
theorem dX1_fits_2_5 : decode cX1_fits_2 5 = .ok (.aload_n 1, 1) := dk_43 (dk_at dksX1_fits_2_0 5 rfl rfl)
theorem dX1_fits_2_6 : decode cX1_fits_2 6 = .ok (.invokevirtual 105, 3) := dk_182 0 105 (dk_at dksX1_fits_2_0 6 rfl rfl)
theorem dX1_fits_2_9 : decode cX1_fits_2 9 = .ok (.pop, 1) := dk_87 (dk_at dksX1_fits_2_0 9 rfl rfl)
theorem dX1_fits_2_10 : decode cX1_fits_2 10 = .ok (.iconst 0, 1) := dk_3 (dk_at dksX1_fits_2_0 10 rfl rfl)
theorem dX1_fits_2_11 : decode cX1_fits_2 11 = .ok (.istore_n 3, 1) := dk_62 (dk_at dksX1_fits_2_0 11 rfl rfl)
theorem dX1_fits_2_12 : decode cX1_fits_2 12 = .ok (.iload_n 3, 1) := dk_29 (dk_at dksX1_fits_2_0 12 rfl rfl)
theorem dX1_fits_2_13 : decode cX1_fits_2 13 = .ok (.aload_n 0, 1) := dk_42 (dk_at dksX1_fits_2_0 13 rfl rfl)
theorem dX1_fits_2_14 : decode cX1_fits_2 14 = .ok (.getfield 48, 3) := dk_180 0 48 (dk_at dksX1_fits_2_0 14 rfl rfl)
theorem dX1_fits_2_17 : decode cX1_fits_2 17 = .ok (.invokeinterface 118 1, 5) := by decide +kernel
theorem dX1_fits_2_22 : decode cX1_fits_2 22 = .ok (.if_icmp .ge 63, 3) := dk_162 0 63 (dk_at dksX1_fits_2_1 0 rfl rfl)
theorem dX1_fits_2_25 : decode cX1_fits_2 25 = .ok (.aload_n 1, 1) := dk_43 (dk_at dksX1_fits_2_1 3 rfl rfl)
theorem dX1_fits_2_26 : decode cX1_fits_2 26 = .ok (.aload_n 0, 1) := dk_42 (dk_at dksX1_fits_2_1 4 rfl rfl)
theorem dX1_fits_2_27 : decode cX1_fits_2 27 = .ok (.getfield 48, 3) := dk_180 0 48 (dk_at dksX1_fits_2_1 5 rfl rfl)
theorem dX1_fits_2_30 : decode cX1_fits_2 30 = .ok (.iload_n 3, 1) := dk_29 (dk_at dksX1_fits_2_1 8 rfl rfl)
theorem dX1_fits_2_31 : decode cX1_fits_2 31 = .ok (.invokeinterface 145 2, 5) := by decide +kernel
theorem dX1_fits_2_36 : decode cX1_fits_2 36 = .ok (.checkcast 151, 3) := dk_192 0 151 (dk_at dksX1_fits_2_1 14 rfl rfl)
theorem dX1_fits_2_39 : decode cX1_fits_2 39 = .ok (.iconst 0, 1) := dk_3 (dk_at dksX1_fits_2_1 17 rfl rfl)
theorem dX1_fits_2_40 : decode cX1_fits_2 40 = .ok (.iaload, 1) := dk_46 (dk_at dksX1_fits_2_1 18 rfl rfl)
theorem dX1_fits_2_41 : decode cX1_fits_2 41 = .ok (.aload_n 0, 1) := dk_42 (dk_at dksX1_fits_2_1 19 rfl rfl)
theorem dX1_fits_2_42 : decode cX1_fits_2 42 = .ok (.getfield 48, 3) := dk_180 0 48 (dk_at dksX1_fits_2_1 20 rfl rfl)
theorem dX1_fits_2_45 : decode cX1_fits_2 45 = .ok (.iload_n 3, 1) := dk_29 (dk_at dksX1_fits_2_1 23 rfl rfl)
theorem dX1_fits_2_46 : decode cX1_fits_2 46 = .ok (.invokeinterface 145 2, 5) := by decide +kernel
theorem dX1_fits_2_51 : decode cX1_fits_2 51 = .ok (.checkcast 151, 3) := dk_192 0 151 (dk_at dksX1_fits_2_2 5 rfl rfl)
theorem dX1_fits_2_54 : decode cX1_fits_2 54 = .ok (.iconst 1, 1) := dk_4 (dk_at dksX1_fits_2_2 8 rfl rfl)
theorem dX1_fits_2_55 : decode cX1_fits_2 55 = .ok (.iaload, 1) := dk_46 (dk_at dksX1_fits_2_2 9 rfl rfl)
theorem dX1_fits_2_56 : decode cX1_fits_2 56 = .ok (.invokevirtual 203, 3) := dk_182 0 203 (dk_at dksX1_fits_2_2 10 rfl rfl)
theorem dX1_fits_2_59 : decode cX1_fits_2 59 = .ok (.aload_n 0, 1) := dk_42 (dk_at dksX1_fits_2_2 13 rfl rfl)
theorem dX1_fits_2_60 : decode cX1_fits_2 60 = .ok (.getfield 48, 3) := dk_180 0 48 (dk_at dksX1_fits_2_2 14 rfl rfl)
theorem dX1_fits_2_63 : decode cX1_fits_2 63 = .ok (.iload_n 3, 1) := dk_29 (dk_at dksX1_fits_2_2 17 rfl rfl)
theorem dX1_fits_2_64 : decode cX1_fits_2 64 = .ok (.invokeinterface 145 2, 5) := by decide +kernel
theorem dX1_fits_2_69 : decode cX1_fits_2 69 = .ok (.checkcast 151, 3) := dk_192 0 151 (dk_at dksX1_fits_2_3 0 rfl rfl)
theorem dX1_fits_2_72 : decode cX1_fits_2 72 = .ok (.iconst 2, 1) := dk_5 (dk_at dksX1_fits_2_3 3 rfl rfl)
theorem dX1_fits_2_73 : decode cX1_fits_2 73 = .ok (.iaload, 1) := dk_46 (dk_at dksX1_fits_2_3 4 rfl rfl)
theorem dX1_fits_2_74 : decode cX1_fits_2 74 = .ok (.if_icmp .eq 5, 3) := dk_159 0 5 (dk_at dksX1_fits_2_3 5 rfl rfl)
theorem dX1_fits_2_77 : decode cX1_fits_2 77 = .ok (.iconst 0, 1) := dk_3 (dk_at dksX1_fits_2_3 8 rfl rfl)
theorem dX1_fits_2_78 : decode cX1_fits_2 78 = .ok (.ireturn, 1) := dk_172 (dk_at dksX1_fits_2_3 9 rfl rfl)
theorem dX1_fits_2_79 : decode cX1_fits_2 79 = .ok (.iinc 3 1, 3) := dk_132 3 1 (dk_at dksX1_fits_2_3 10 rfl rfl)
theorem dX1_fits_2_82 : decode cX1_fits_2 82 = .ok (.goto (-70), 3) := dk_167 255 186 (dk_at dksX1_fits_2_3 13 rfl rfl)
theorem dX1_fits_2_85 : decode cX1_fits_2 85 = .ok (.iconst 1, 1) := dk_4 (dk_at dksX1_fits_2_3 16 rfl rfl)
theorem dX1_fits_2_86 : decode cX1_fits_2 86 = .ok (.ireturn, 1) := dk_172 (dk_at dksX1_fits_2_3 17 rfl rfl)
abbrev cX1_watch : ByteArray := prog_1_method_51_code
def yX1_watch : MethodName := ⟨RX1, "watch", "(I)I"⟩
def dkwX1_watch_9 : List UInt8 := [132, 6, 1, 167, 255, 204, 21, 5, 172]
abbrev dktX1_watch_9 : List UInt8 := dkwX1_watch_9 ++ []
def dkwX1_watch_8 : List UInt8 := [184, 1, 33, 5, 45, 21, 5, 46, 104, 21, 4, 100, 184, 1, 33, 162, 0, 7, 21, 6, 54, 5]
abbrev dktX1_watch_8 : List UInt8 := dkwX1_watch_8 ++ dktX1_watch_9
def dkwX1_watch_7 : List UInt8 := [180, 0, 19, 180, 0, 109, 162, 0, 46, 21, 5, 2, 159, 0, 30, 5, 45, 21, 6, 46, 104, 21, 4, 100]
abbrev dktX1_watch_7 : List UInt8 := dkwX1_watch_7 ++ dktX1_watch_8
def dkwX1_watch_6 : List UInt8 := [4, 96, 79, 132, 7, 1, 167, 255, 223, 132, 5, 1, 167, 255, 127, 2, 54, 5, 3, 54, 6, 21, 6, 42]
abbrev dktX1_watch_6 : List UInt8 := dkwX1_watch_6 ++ dktX1_watch_7
def dkwX1_watch_5 : List UInt8 := [180, 0, 19, 180, 0, 109, 162, 0, 27, 21, 6, 21, 7, 184, 0, 178, 153, 0, 11, 45, 21, 7, 92, 46]
abbrev dktX1_watch_5 : List UInt8 := dkwX1_watch_5 ++ dktX1_watch_6
def dkwX1_watch_4 : List UInt8 := [21, 7, 27, 182, 0, 203, 120, 128, 54, 6, 132, 7, 1, 167, 255, 211, 3, 54, 7, 21, 7, 42]
abbrev dktX1_watch_4 : List UInt8 := dkwX1_watch_4 ++ dktX1_watch_5
def dkwX1_watch_3 : List UInt8 := [185, 0, 118, 1, 0, 162, 0, 34, 44, 21, 7, 27, 182, 0, 203, 2, 159, 0, 17, 21, 6, 4, 44]
abbrev dktX1_watch_3 : List UInt8 := dkwX1_watch_3 ++ dktX1_watch_4
def dkwX1_watch_2 : List UInt8 := [167, 0, 99, 132, 4, 1, 3, 54, 6, 3, 54, 7, 21, 7, 42, 180, 0, 19, 180, 0, 115]
abbrev dktX1_watch_2 : List UInt8 := dkwX1_watch_2 ++ dktX1_watch_3
def dkwX1_watch_1 : List UInt8 := [180, 0, 19, 180, 0, 75, 185, 0, 118, 1, 0, 162, 0, 118, 42, 44, 21, 5, 182, 1, 29, 154, 0, 6]
abbrev dktX1_watch_1 : List UInt8 := dkwX1_watch_1 ++ dktX1_watch_2
def dkwX1_watch_0 : List UInt8 := [187, 0, 100, 89, 42, 183, 0, 102, 77, 16, 10, 188, 10, 78, 3, 54, 4, 2, 54, 5, 21, 5, 42]
abbrev dktX1_watch_0 : List UInt8 := dkwX1_watch_0 ++ dktX1_watch_1
theorem dksX1_watch_0 : cX1_watch.data.toList.drop 0 = dktX1_watch_0 := by decide +kernel
theorem dksX1_watch_1 : cX1_watch.data.toList.drop 23 = dktX1_watch_1 := dk_seg dksX1_watch_0 23 rfl rfl
theorem dksX1_watch_2 : cX1_watch.data.toList.drop 47 = dktX1_watch_2 := dk_seg dksX1_watch_1 24 rfl rfl
theorem dksX1_watch_3 : cX1_watch.data.toList.drop 68 = dktX1_watch_3 := dk_seg dksX1_watch_2 21 rfl rfl
theorem dksX1_watch_4 : cX1_watch.data.toList.drop 91 = dktX1_watch_4 := dk_seg dksX1_watch_3 23 rfl rfl
theorem dksX1_watch_5 : cX1_watch.data.toList.drop 113 = dktX1_watch_5 := dk_seg dksX1_watch_4 22 rfl rfl
theorem dksX1_watch_6 : cX1_watch.data.toList.drop 137 = dktX1_watch_6 := dk_seg dksX1_watch_5 24 rfl rfl
theorem dksX1_watch_7 : cX1_watch.data.toList.drop 161 = dktX1_watch_7 := dk_seg dksX1_watch_6 24 rfl rfl
theorem dksX1_watch_8 : cX1_watch.data.toList.drop 185 = dktX1_watch_8 := dk_seg dksX1_watch_7 24 rfl rfl
theorem dksX1_watch_9 : cX1_watch.data.toList.drop 207 = dktX1_watch_9 := dk_seg dksX1_watch_8 22 rfl rfl
theorem dX1_watch_0 : decode cX1_watch 0 = .ok (.new 100, 3) := dk_187 0 100 (dk_at dksX1_watch_0 0 rfl rfl)
theorem dX1_watch_3 : decode cX1_watch 3 = .ok (.dup, 1) := dk_89 (dk_at dksX1_watch_0 3 rfl rfl)
theorem dX1_watch_4 : decode cX1_watch 4 = .ok (.aload_n 0, 1) := dk_42 (dk_at dksX1_watch_0 4 rfl rfl)
theorem dX1_watch_5 : decode cX1_watch 5 = .ok (.invokespecial 102, 3) := dk_183 0 102 (dk_at dksX1_watch_0 5 rfl rfl)
theorem dX1_watch_8 : decode cX1_watch 8 = .ok (.astore_n 2, 1) := dk_77 (dk_at dksX1_watch_0 8 rfl rfl)
theorem dX1_watch_9 : decode cX1_watch 9 = .ok (.bipush 10, 2) := dk_16 10 (dk_at dksX1_watch_0 9 rfl rfl)
theorem dX1_watch_11 : decode cX1_watch 11 = .ok (.newarray .int, 2) := dk_188_10 (dk_at dksX1_watch_0 11 rfl rfl)
theorem dX1_watch_13 : decode cX1_watch 13 = .ok (.astore_n 3, 1) := dk_78 (dk_at dksX1_watch_0 13 rfl rfl)
theorem dX1_watch_14 : decode cX1_watch 14 = .ok (.iconst 0, 1) := dk_3 (dk_at dksX1_watch_0 14 rfl rfl)
theorem dX1_watch_15 : decode cX1_watch 15 = .ok (.istore 4, 2) := dk_54 4 (dk_at dksX1_watch_0 15 rfl rfl)
theorem dX1_watch_17 : decode cX1_watch 17 = .ok (.iconst (-1), 1) := dk_2 (dk_at dksX1_watch_0 17 rfl rfl)
theorem dX1_watch_18 : decode cX1_watch 18 = .ok (.istore 5, 2) := dk_54 5 (dk_at dksX1_watch_0 18 rfl rfl)
theorem dX1_watch_20 : decode cX1_watch 20 = .ok (.iload 5, 2) := dk_21 5 (dk_at dksX1_watch_0 20 rfl rfl)
theorem dX1_watch_22 : decode cX1_watch 22 = .ok (.aload_n 0, 1) := dk_42 (dk_at dksX1_watch_0 22 rfl rfl)
theorem dX1_watch_23 : decode cX1_watch 23 = .ok (.getfield 19, 3) := dk_180 0 19 (dk_at dksX1_watch_1 0 rfl rfl)
theorem dX1_watch_26 : decode cX1_watch 26 = .ok (.getfield 75, 3) := dk_180 0 75 (dk_at dksX1_watch_1 3 rfl rfl)
theorem dX1_watch_29 : decode cX1_watch 29 = .ok (.invokeinterface 118 1, 5) := by decide +kernel
theorem dX1_watch_34 : decode cX1_watch 34 = .ok (.if_icmp .ge 118, 3) := dk_162 0 118 (dk_at dksX1_watch_1 11 rfl rfl)
theorem dX1_watch_37 : decode cX1_watch 37 = .ok (.aload_n 0, 1) := dk_42 (dk_at dksX1_watch_1 14 rfl rfl)
theorem dX1_watch_38 : decode cX1_watch 38 = .ok (.aload_n 2, 1) := dk_44 (dk_at dksX1_watch_1 15 rfl rfl)
theorem dX1_watch_39 : decode cX1_watch 39 = .ok (.iload 5, 2) := dk_21 5 (dk_at dksX1_watch_1 16 rfl rfl)
theorem dX1_watch_41 : decode cX1_watch 41 = .ok (.invokevirtual 285, 3) := dk_182 1 29 (dk_at dksX1_watch_1 18 rfl rfl)
theorem dX1_watch_44 : decode cX1_watch 44 = .ok (.ifCond .ne 6, 3) := dk_154 0 6 (dk_at dksX1_watch_1 21 rfl rfl)
theorem dX1_watch_47 : decode cX1_watch 47 = .ok (.goto 99, 3) := dk_167 0 99 (dk_at dksX1_watch_2 0 rfl rfl)
theorem dX1_watch_50 : decode cX1_watch 50 = .ok (.iinc 4 1, 3) := dk_132 4 1 (dk_at dksX1_watch_2 3 rfl rfl)
theorem dX1_watch_53 : decode cX1_watch 53 = .ok (.iconst 0, 1) := dk_3 (dk_at dksX1_watch_2 6 rfl rfl)
theorem dX1_watch_54 : decode cX1_watch 54 = .ok (.istore 6, 2) := dk_54 6 (dk_at dksX1_watch_2 7 rfl rfl)
theorem dX1_watch_56 : decode cX1_watch 56 = .ok (.iconst 0, 1) := dk_3 (dk_at dksX1_watch_2 9 rfl rfl)
theorem dX1_watch_57 : decode cX1_watch 57 = .ok (.istore 7, 2) := dk_54 7 (dk_at dksX1_watch_2 10 rfl rfl)
theorem dX1_watch_59 : decode cX1_watch 59 = .ok (.iload 7, 2) := dk_21 7 (dk_at dksX1_watch_2 12 rfl rfl)
theorem dX1_watch_61 : decode cX1_watch 61 = .ok (.aload_n 0, 1) := dk_42 (dk_at dksX1_watch_2 14 rfl rfl)
theorem dX1_watch_62 : decode cX1_watch 62 = .ok (.getfield 19, 3) := dk_180 0 19 (dk_at dksX1_watch_2 15 rfl rfl)
theorem dX1_watch_65 : decode cX1_watch 65 = .ok (.getfield 115, 3) := dk_180 0 115 (dk_at dksX1_watch_2 18 rfl rfl)
theorem dX1_watch_68 : decode cX1_watch 68 = .ok (.invokeinterface 118 1, 5) := by decide +kernel
theorem dX1_watch_73 : decode cX1_watch 73 = .ok (.if_icmp .ge 34, 3) := dk_162 0 34 (dk_at dksX1_watch_3 5 rfl rfl)
theorem dX1_watch_76 : decode cX1_watch 76 = .ok (.aload_n 2, 1) := dk_44 (dk_at dksX1_watch_3 8 rfl rfl)
theorem dX1_watch_77 : decode cX1_watch 77 = .ok (.iload 7, 2) := dk_21 7 (dk_at dksX1_watch_3 9 rfl rfl)
theorem dX1_watch_79 : decode cX1_watch 79 = .ok (.iload_n 1, 1) := dk_27 (dk_at dksX1_watch_3 11 rfl rfl)
theorem dX1_watch_80 : decode cX1_watch 80 = .ok (.invokevirtual 203, 3) := dk_182 0 203 (dk_at dksX1_watch_3 12 rfl rfl)
theorem dX1_watch_83 : decode cX1_watch 83 = .ok (.iconst (-1), 1) := dk_2 (dk_at dksX1_watch_3 15 rfl rfl)
theorem dX1_watch_84 : decode cX1_watch 84 = .ok (.if_icmp .eq 17, 3) := dk_159 0 17 (dk_at dksX1_watch_3 16 rfl rfl)
theorem dX1_watch_87 : decode cX1_watch 87 = .ok (.iload 6, 2) := dk_21 6 (dk_at dksX1_watch_3 19 rfl rfl)
theorem dX1_watch_89 : decode cX1_watch 89 = .ok (.iconst 1, 1) := dk_4 (dk_at dksX1_watch_3 21 rfl rfl)
theorem dX1_watch_90 : decode cX1_watch 90 = .ok (.aload_n 2, 1) := dk_44 (dk_at dksX1_watch_3 22 rfl rfl)
theorem dX1_watch_91 : decode cX1_watch 91 = .ok (.iload 7, 2) := dk_21 7 (dk_at dksX1_watch_4 0 rfl rfl)
theorem dX1_watch_93 : decode cX1_watch 93 = .ok (.iload_n 1, 1) := dk_27 (dk_at dksX1_watch_4 2 rfl rfl)
theorem dX1_watch_94 : decode cX1_watch 94 = .ok (.invokevirtual 203, 3) := dk_182 0 203 (dk_at dksX1_watch_4 3 rfl rfl)
theorem dX1_watch_97 : decode cX1_watch 97 = .ok (.ishl, 1) := dk_120 (dk_at dksX1_watch_4 6 rfl rfl)
theorem dX1_watch_98 : decode cX1_watch 98 = .ok (.ior, 1) := dk_128 (dk_at dksX1_watch_4 7 rfl rfl)
theorem dX1_watch_99 : decode cX1_watch 99 = .ok (.istore 6, 2) := dk_54 6 (dk_at dksX1_watch_4 8 rfl rfl)
theorem dX1_watch_101 : decode cX1_watch 101 = .ok (.iinc 7 1, 3) := dk_132 7 1 (dk_at dksX1_watch_4 10 rfl rfl)
theorem dX1_watch_104 : decode cX1_watch 104 = .ok (.goto (-45), 3) := dk_167 255 211 (dk_at dksX1_watch_4 13 rfl rfl)
theorem dX1_watch_107 : decode cX1_watch 107 = .ok (.iconst 0, 1) := dk_3 (dk_at dksX1_watch_4 16 rfl rfl)
theorem dX1_watch_108 : decode cX1_watch 108 = .ok (.istore 7, 2) := dk_54 7 (dk_at dksX1_watch_4 17 rfl rfl)
theorem dX1_watch_110 : decode cX1_watch 110 = .ok (.iload 7, 2) := dk_21 7 (dk_at dksX1_watch_4 19 rfl rfl)
theorem dX1_watch_112 : decode cX1_watch 112 = .ok (.aload_n 0, 1) := dk_42 (dk_at dksX1_watch_4 21 rfl rfl)
theorem dX1_watch_113 : decode cX1_watch 113 = .ok (.getfield 19, 3) := dk_180 0 19 (dk_at dksX1_watch_5 0 rfl rfl)
theorem dX1_watch_116 : decode cX1_watch 116 = .ok (.getfield 109, 3) := dk_180 0 109 (dk_at dksX1_watch_5 3 rfl rfl)
theorem dX1_watch_119 : decode cX1_watch 119 = .ok (.if_icmp .ge 27, 3) := dk_162 0 27 (dk_at dksX1_watch_5 6 rfl rfl)
theorem dX1_watch_122 : decode cX1_watch 122 = .ok (.iload 6, 2) := dk_21 6 (dk_at dksX1_watch_5 9 rfl rfl)
theorem dX1_watch_124 : decode cX1_watch 124 = .ok (.iload 7, 2) := dk_21 7 (dk_at dksX1_watch_5 11 rfl rfl)
theorem dX1_watch_126 : decode cX1_watch 126 = .ok (.invokestatic 178, 3) := dk_184 0 178 (dk_at dksX1_watch_5 13 rfl rfl)
theorem dX1_watch_129 : decode cX1_watch 129 = .ok (.ifCond .eq 11, 3) := dk_153 0 11 (dk_at dksX1_watch_5 16 rfl rfl)
theorem dX1_watch_132 : decode cX1_watch 132 = .ok (.aload_n 3, 1) := dk_45 (dk_at dksX1_watch_5 19 rfl rfl)
theorem dX1_watch_133 : decode cX1_watch 133 = .ok (.iload 7, 2) := dk_21 7 (dk_at dksX1_watch_5 20 rfl rfl)
theorem dX1_watch_135 : decode cX1_watch 135 = .ok (.dup2, 1) := dk_92 (dk_at dksX1_watch_5 22 rfl rfl)
theorem dX1_watch_136 : decode cX1_watch 136 = .ok (.iaload, 1) := dk_46 (dk_at dksX1_watch_5 23 rfl rfl)
theorem dX1_watch_137 : decode cX1_watch 137 = .ok (.iconst 1, 1) := dk_4 (dk_at dksX1_watch_6 0 rfl rfl)
theorem dX1_watch_138 : decode cX1_watch 138 = .ok (.iadd, 1) := dk_96 (dk_at dksX1_watch_6 1 rfl rfl)
theorem dX1_watch_139 : decode cX1_watch 139 = .ok (.iastore, 1) := dk_79 (dk_at dksX1_watch_6 2 rfl rfl)
theorem dX1_watch_140 : decode cX1_watch 140 = .ok (.iinc 7 1, 3) := dk_132 7 1 (dk_at dksX1_watch_6 3 rfl rfl)
theorem dX1_watch_143 : decode cX1_watch 143 = .ok (.goto (-33), 3) := dk_167 255 223 (dk_at dksX1_watch_6 6 rfl rfl)
theorem dX1_watch_146 : decode cX1_watch 146 = .ok (.iinc 5 1, 3) := dk_132 5 1 (dk_at dksX1_watch_6 9 rfl rfl)
theorem dX1_watch_149 : decode cX1_watch 149 = .ok (.goto (-129), 3) := dk_167 255 127 (dk_at dksX1_watch_6 12 rfl rfl)
theorem dX1_watch_152 : decode cX1_watch 152 = .ok (.iconst (-1), 1) := dk_2 (dk_at dksX1_watch_6 15 rfl rfl)
theorem dX1_watch_153 : decode cX1_watch 153 = .ok (.istore 5, 2) := dk_54 5 (dk_at dksX1_watch_6 16 rfl rfl)
theorem dX1_watch_155 : decode cX1_watch 155 = .ok (.iconst 0, 1) := dk_3 (dk_at dksX1_watch_6 18 rfl rfl)
theorem dX1_watch_156 : decode cX1_watch 156 = .ok (.istore 6, 2) := dk_54 6 (dk_at dksX1_watch_6 19 rfl rfl)
theorem dX1_watch_158 : decode cX1_watch 158 = .ok (.iload 6, 2) := dk_21 6 (dk_at dksX1_watch_6 21 rfl rfl)
theorem dX1_watch_160 : decode cX1_watch 160 = .ok (.aload_n 0, 1) := dk_42 (dk_at dksX1_watch_6 23 rfl rfl)
theorem dX1_watch_161 : decode cX1_watch 161 = .ok (.getfield 19, 3) := dk_180 0 19 (dk_at dksX1_watch_7 0 rfl rfl)
theorem dX1_watch_164 : decode cX1_watch 164 = .ok (.getfield 109, 3) := dk_180 0 109 (dk_at dksX1_watch_7 3 rfl rfl)
theorem dX1_watch_167 : decode cX1_watch 167 = .ok (.if_icmp .ge 46, 3) := dk_162 0 46 (dk_at dksX1_watch_7 6 rfl rfl)
theorem dX1_watch_170 : decode cX1_watch 170 = .ok (.iload 5, 2) := dk_21 5 (dk_at dksX1_watch_7 9 rfl rfl)
theorem dX1_watch_172 : decode cX1_watch 172 = .ok (.iconst (-1), 1) := dk_2 (dk_at dksX1_watch_7 11 rfl rfl)
theorem dX1_watch_173 : decode cX1_watch 173 = .ok (.if_icmp .eq 30, 3) := dk_159 0 30 (dk_at dksX1_watch_7 12 rfl rfl)
theorem dX1_watch_176 : decode cX1_watch 176 = .ok (.iconst 2, 1) := dk_5 (dk_at dksX1_watch_7 15 rfl rfl)
theorem dX1_watch_177 : decode cX1_watch 177 = .ok (.aload_n 3, 1) := dk_45 (dk_at dksX1_watch_7 16 rfl rfl)
theorem dX1_watch_178 : decode cX1_watch 178 = .ok (.iload 6, 2) := dk_21 6 (dk_at dksX1_watch_7 17 rfl rfl)
theorem dX1_watch_180 : decode cX1_watch 180 = .ok (.iaload, 1) := dk_46 (dk_at dksX1_watch_7 19 rfl rfl)
theorem dX1_watch_181 : decode cX1_watch 181 = .ok (.imul, 1) := dk_104 (dk_at dksX1_watch_7 20 rfl rfl)
theorem dX1_watch_182 : decode cX1_watch 182 = .ok (.iload 4, 2) := dk_21 4 (dk_at dksX1_watch_7 21 rfl rfl)
theorem dX1_watch_184 : decode cX1_watch 184 = .ok (.isub, 1) := dk_100 (dk_at dksX1_watch_7 23 rfl rfl)
theorem dX1_watch_185 : decode cX1_watch 185 = .ok (.invokestatic 289, 3) := dk_184 1 33 (dk_at dksX1_watch_8 0 rfl rfl)
theorem dX1_watch_188 : decode cX1_watch 188 = .ok (.iconst 2, 1) := dk_5 (dk_at dksX1_watch_8 3 rfl rfl)
theorem dX1_watch_189 : decode cX1_watch 189 = .ok (.aload_n 3, 1) := dk_45 (dk_at dksX1_watch_8 4 rfl rfl)
theorem dX1_watch_190 : decode cX1_watch 190 = .ok (.iload 5, 2) := dk_21 5 (dk_at dksX1_watch_8 5 rfl rfl)
theorem dX1_watch_192 : decode cX1_watch 192 = .ok (.iaload, 1) := dk_46 (dk_at dksX1_watch_8 7 rfl rfl)
theorem dX1_watch_193 : decode cX1_watch 193 = .ok (.imul, 1) := dk_104 (dk_at dksX1_watch_8 8 rfl rfl)
theorem dX1_watch_194 : decode cX1_watch 194 = .ok (.iload 4, 2) := dk_21 4 (dk_at dksX1_watch_8 9 rfl rfl)
theorem dX1_watch_196 : decode cX1_watch 196 = .ok (.isub, 1) := dk_100 (dk_at dksX1_watch_8 11 rfl rfl)
theorem dX1_watch_197 : decode cX1_watch 197 = .ok (.invokestatic 289, 3) := dk_184 1 33 (dk_at dksX1_watch_8 12 rfl rfl)
theorem dX1_watch_200 : decode cX1_watch 200 = .ok (.if_icmp .ge 7, 3) := dk_162 0 7 (dk_at dksX1_watch_8 15 rfl rfl)
theorem dX1_watch_203 : decode cX1_watch 203 = .ok (.iload 6, 2) := dk_21 6 (dk_at dksX1_watch_8 18 rfl rfl)
theorem dX1_watch_205 : decode cX1_watch 205 = .ok (.istore 5, 2) := dk_54 5 (dk_at dksX1_watch_8 20 rfl rfl)
theorem dX1_watch_207 : decode cX1_watch 207 = .ok (.iinc 6 1, 3) := dk_132 6 1 (dk_at dksX1_watch_9 0 rfl rfl)
theorem dX1_watch_210 : decode cX1_watch 210 = .ok (.goto (-52), 3) := dk_167 255 204 (dk_at dksX1_watch_9 3 rfl rfl)
theorem dX1_watch_213 : decode cX1_watch 213 = .ok (.iload 5, 2) := dk_21 5 (dk_at dksX1_watch_9 6 rfl rfl)
theorem dX1_watch_215 : decode cX1_watch 215 = .ok (.ireturn, 1) := dk_172 (dk_at dksX1_watch_9 8 rfl rfl)
abbrev cX1_best : ByteArray := prog_1_method_54_code
def yX1_best : MethodName := ⟨RX1, "best", "()I"⟩
def dkwX1_best_3 : List UInt8 := [21, 5, 62, 132, 4, 1, 167, 255, 206, 28, 172]
abbrev dktX1_best_3 : List UInt8 := dkwX1_best_3 ++ []
def dkwX1_best_2 : List UInt8 := [181, 1, 26, 43, 182, 0, 105, 182, 0, 131, 54, 5, 21, 5, 29, 163, 0, 6, 167, 0, 9, 21, 4, 61]
abbrev dktX1_best_2 : List UInt8 := dkwX1_best_2 ++ dktX1_best_3
def dkwX1_best_1 : List UInt8 := [3, 54, 4, 21, 4, 42, 180, 0, 19, 180, 0, 75, 185, 0, 118, 1, 0, 162, 0, 39, 43, 21, 4]
abbrev dktX1_best_1 : List UInt8 := dkwX1_best_1 ++ dktX1_best_2
def dkwX1_best_0 : List UInt8 := [187, 0, 100, 89, 42, 183, 0, 102, 76, 43, 2, 181, 1, 26, 2, 61, 43, 182, 0, 105, 182, 0, 131, 62]
abbrev dktX1_best_0 : List UInt8 := dkwX1_best_0 ++ dktX1_best_1
theorem dksX1_best_0 : cX1_best.data.toList.drop 0 = dktX1_best_0 := by decide +kernel
theorem dksX1_best_1 : cX1_best.data.toList.drop 24 = dktX1_best_1 := dk_seg dksX1_best_0 24 rfl rfl
theorem dksX1_best_2 : cX1_best.data.toList.drop 47 = dktX1_best_2 := dk_seg dksX1_best_1 23 rfl rfl
theorem dksX1_best_3 : cX1_best.data.toList.drop 71 = dktX1_best_3 := dk_seg dksX1_best_2 24 rfl rfl
theorem dX1_best_0 : decode cX1_best 0 = .ok (.new 100, 3) := dk_187 0 100 (dk_at dksX1_best_0 0 rfl rfl)
theorem dX1_best_3 : decode cX1_best 3 = .ok (.dup, 1) := dk_89 (dk_at dksX1_best_0 3 rfl rfl)
theorem dX1_best_4 : decode cX1_best 4 = .ok (.aload_n 0, 1) := dk_42 (dk_at dksX1_best_0 4 rfl rfl)
theorem dX1_best_5 : decode cX1_best 5 = .ok (.invokespecial 102, 3) := dk_183 0 102 (dk_at dksX1_best_0 5 rfl rfl)
theorem dX1_best_8 : decode cX1_best 8 = .ok (.astore_n 1, 1) := dk_76 (dk_at dksX1_best_0 8 rfl rfl)
theorem dX1_best_9 : decode cX1_best 9 = .ok (.aload_n 1, 1) := dk_43 (dk_at dksX1_best_0 9 rfl rfl)
theorem dX1_best_10 : decode cX1_best 10 = .ok (.iconst (-1), 1) := dk_2 (dk_at dksX1_best_0 10 rfl rfl)
theorem dX1_best_11 : decode cX1_best 11 = .ok (.putfield 282, 3) := dk_181 1 26 (dk_at dksX1_best_0 11 rfl rfl)
theorem dX1_best_14 : decode cX1_best 14 = .ok (.iconst (-1), 1) := dk_2 (dk_at dksX1_best_0 14 rfl rfl)
theorem dX1_best_15 : decode cX1_best 15 = .ok (.istore_n 2, 1) := dk_61 (dk_at dksX1_best_0 15 rfl rfl)
theorem dX1_best_16 : decode cX1_best 16 = .ok (.aload_n 1, 1) := dk_43 (dk_at dksX1_best_0 16 rfl rfl)
theorem dX1_best_17 : decode cX1_best 17 = .ok (.invokevirtual 105, 3) := dk_182 0 105 (dk_at dksX1_best_0 17 rfl rfl)
theorem dX1_best_20 : decode cX1_best 20 = .ok (.invokevirtual 131, 3) := dk_182 0 131 (dk_at dksX1_best_0 20 rfl rfl)
theorem dX1_best_23 : decode cX1_best 23 = .ok (.istore_n 3, 1) := dk_62 (dk_at dksX1_best_0 23 rfl rfl)
theorem dX1_best_24 : decode cX1_best 24 = .ok (.iconst 0, 1) := dk_3 (dk_at dksX1_best_1 0 rfl rfl)
theorem dX1_best_25 : decode cX1_best 25 = .ok (.istore 4, 2) := dk_54 4 (dk_at dksX1_best_1 1 rfl rfl)
theorem dX1_best_27 : decode cX1_best 27 = .ok (.iload 4, 2) := dk_21 4 (dk_at dksX1_best_1 3 rfl rfl)
theorem dX1_best_29 : decode cX1_best 29 = .ok (.aload_n 0, 1) := dk_42 (dk_at dksX1_best_1 5 rfl rfl)
theorem dX1_best_30 : decode cX1_best 30 = .ok (.getfield 19, 3) := dk_180 0 19 (dk_at dksX1_best_1 6 rfl rfl)
theorem dX1_best_33 : decode cX1_best 33 = .ok (.getfield 75, 3) := dk_180 0 75 (dk_at dksX1_best_1 9 rfl rfl)
theorem dX1_best_36 : decode cX1_best 36 = .ok (.invokeinterface 118 1, 5) := by decide +kernel
theorem dX1_best_41 : decode cX1_best 41 = .ok (.if_icmp .ge 39, 3) := dk_162 0 39 (dk_at dksX1_best_1 17 rfl rfl)
theorem dX1_best_44 : decode cX1_best 44 = .ok (.aload_n 1, 1) := dk_43 (dk_at dksX1_best_1 20 rfl rfl)
theorem dX1_best_45 : decode cX1_best 45 = .ok (.iload 4, 2) := dk_21 4 (dk_at dksX1_best_1 21 rfl rfl)
theorem dX1_best_47 : decode cX1_best 47 = .ok (.putfield 282, 3) := dk_181 1 26 (dk_at dksX1_best_2 0 rfl rfl)
theorem dX1_best_50 : decode cX1_best 50 = .ok (.aload_n 1, 1) := dk_43 (dk_at dksX1_best_2 3 rfl rfl)
theorem dX1_best_51 : decode cX1_best 51 = .ok (.invokevirtual 105, 3) := dk_182 0 105 (dk_at dksX1_best_2 4 rfl rfl)
theorem dX1_best_54 : decode cX1_best 54 = .ok (.invokevirtual 131, 3) := dk_182 0 131 (dk_at dksX1_best_2 7 rfl rfl)
theorem dX1_best_57 : decode cX1_best 57 = .ok (.istore 5, 2) := dk_54 5 (dk_at dksX1_best_2 10 rfl rfl)
theorem dX1_best_59 : decode cX1_best 59 = .ok (.iload 5, 2) := dk_21 5 (dk_at dksX1_best_2 12 rfl rfl)
theorem dX1_best_61 : decode cX1_best 61 = .ok (.iload_n 3, 1) := dk_29 (dk_at dksX1_best_2 14 rfl rfl)
theorem dX1_best_62 : decode cX1_best 62 = .ok (.if_icmp .gt 6, 3) := dk_163 0 6 (dk_at dksX1_best_2 15 rfl rfl)
theorem dX1_best_65 : decode cX1_best 65 = .ok (.goto 9, 3) := dk_167 0 9 (dk_at dksX1_best_2 18 rfl rfl)
theorem dX1_best_68 : decode cX1_best 68 = .ok (.iload 4, 2) := dk_21 4 (dk_at dksX1_best_2 21 rfl rfl)
theorem dX1_best_70 : decode cX1_best 70 = .ok (.istore_n 2, 1) := dk_61 (dk_at dksX1_best_2 23 rfl rfl)
theorem dX1_best_71 : decode cX1_best 71 = .ok (.iload 5, 2) := dk_21 5 (dk_at dksX1_best_3 0 rfl rfl)
theorem dX1_best_73 : decode cX1_best 73 = .ok (.istore_n 3, 1) := dk_62 (dk_at dksX1_best_3 2 rfl rfl)
theorem dX1_best_74 : decode cX1_best 74 = .ok (.iinc 4 1, 3) := dk_132 4 1 (dk_at dksX1_best_3 3 rfl rfl)
theorem dX1_best_77 : decode cX1_best 77 = .ok (.goto (-50), 3) := dk_167 255 206 (dk_at dksX1_best_3 6 rfl rfl)
theorem dX1_best_80 : decode cX1_best 80 = .ok (.iload_n 2, 1) := dk_28 (dk_at dksX1_best_3 9 rfl rfl)
theorem dX1_best_81 : decode cX1_best 81 = .ok (.ireturn, 1) := dk_172 (dk_at dksX1_best_3 10 rfl rfl)
abbrev cX1_bright : ByteArray := prog_1_method_55_code
def yX1_bright : MethodName := ⟨RX1, "bright", "()I"⟩
def dkwX1_bright_2 : List UInt8 := [180, 1, 43, 61, 21, 4, 62, 43, 89, 180, 1, 43, 4, 96, 181, 1, 43, 167, 255, 211, 28, 172]
abbrev dktX1_bright_2 : List UInt8 := dkwX1_bright_2 ++ []
def dkwX1_bright_1 : List UInt8 := [162, 0, 42, 43, 182, 0, 105, 182, 0, 131, 54, 4, 21, 4, 29, 163, 0, 6, 167, 0, 11, 43]
abbrev dktX1_bright_1 : List UInt8 := dkwX1_bright_1 ++ dktX1_bright_2
def dkwX1_bright_0 : List UInt8 := [187, 0, 100, 89, 42, 183, 0, 102, 76, 3, 61, 2, 62, 43, 3, 181, 1, 43, 43, 180, 1, 43, 16, 8]
abbrev dktX1_bright_0 : List UInt8 := dkwX1_bright_0 ++ dktX1_bright_1
theorem dksX1_bright_0 : cX1_bright.data.toList.drop 0 = dktX1_bright_0 := by decide +kernel
theorem dksX1_bright_1 : cX1_bright.data.toList.drop 24 = dktX1_bright_1 := dk_seg dksX1_bright_0 24 rfl rfl
theorem dksX1_bright_2 : cX1_bright.data.toList.drop 46 = dktX1_bright_2 := dk_seg dksX1_bright_1 22 rfl rfl
theorem dX1_bright_0 : decode cX1_bright 0 = .ok (.new 100, 3) := dk_187 0 100 (dk_at dksX1_bright_0 0 rfl rfl)
theorem dX1_bright_3 : decode cX1_bright 3 = .ok (.dup, 1) := dk_89 (dk_at dksX1_bright_0 3 rfl rfl)
theorem dX1_bright_4 : decode cX1_bright 4 = .ok (.aload_n 0, 1) := dk_42 (dk_at dksX1_bright_0 4 rfl rfl)
theorem dX1_bright_5 : decode cX1_bright 5 = .ok (.invokespecial 102, 3) := dk_183 0 102 (dk_at dksX1_bright_0 5 rfl rfl)
theorem dX1_bright_8 : decode cX1_bright 8 = .ok (.astore_n 1, 1) := dk_76 (dk_at dksX1_bright_0 8 rfl rfl)
theorem dX1_bright_9 : decode cX1_bright 9 = .ok (.iconst 0, 1) := dk_3 (dk_at dksX1_bright_0 9 rfl rfl)
theorem dX1_bright_10 : decode cX1_bright 10 = .ok (.istore_n 2, 1) := dk_61 (dk_at dksX1_bright_0 10 rfl rfl)
theorem dX1_bright_11 : decode cX1_bright 11 = .ok (.iconst (-1), 1) := dk_2 (dk_at dksX1_bright_0 11 rfl rfl)
theorem dX1_bright_12 : decode cX1_bright 12 = .ok (.istore_n 3, 1) := dk_62 (dk_at dksX1_bright_0 12 rfl rfl)
theorem dX1_bright_13 : decode cX1_bright 13 = .ok (.aload_n 1, 1) := dk_43 (dk_at dksX1_bright_0 13 rfl rfl)
theorem dX1_bright_14 : decode cX1_bright 14 = .ok (.iconst 0, 1) := dk_3 (dk_at dksX1_bright_0 14 rfl rfl)
theorem dX1_bright_15 : decode cX1_bright 15 = .ok (.putfield 299, 3) := dk_181 1 43 (dk_at dksX1_bright_0 15 rfl rfl)
theorem dX1_bright_18 : decode cX1_bright 18 = .ok (.aload_n 1, 1) := dk_43 (dk_at dksX1_bright_0 18 rfl rfl)
theorem dX1_bright_19 : decode cX1_bright 19 = .ok (.getfield 299, 3) := dk_180 1 43 (dk_at dksX1_bright_0 19 rfl rfl)
theorem dX1_bright_22 : decode cX1_bright 22 = .ok (.bipush 8, 2) := dk_16 8 (dk_at dksX1_bright_0 22 rfl rfl)
theorem dX1_bright_24 : decode cX1_bright 24 = .ok (.if_icmp .ge 42, 3) := dk_162 0 42 (dk_at dksX1_bright_1 0 rfl rfl)
theorem dX1_bright_27 : decode cX1_bright 27 = .ok (.aload_n 1, 1) := dk_43 (dk_at dksX1_bright_1 3 rfl rfl)
theorem dX1_bright_28 : decode cX1_bright 28 = .ok (.invokevirtual 105, 3) := dk_182 0 105 (dk_at dksX1_bright_1 4 rfl rfl)
theorem dX1_bright_31 : decode cX1_bright 31 = .ok (.invokevirtual 131, 3) := dk_182 0 131 (dk_at dksX1_bright_1 7 rfl rfl)
theorem dX1_bright_34 : decode cX1_bright 34 = .ok (.istore 4, 2) := dk_54 4 (dk_at dksX1_bright_1 10 rfl rfl)
theorem dX1_bright_36 : decode cX1_bright 36 = .ok (.iload 4, 2) := dk_21 4 (dk_at dksX1_bright_1 12 rfl rfl)
theorem dX1_bright_38 : decode cX1_bright 38 = .ok (.iload_n 3, 1) := dk_29 (dk_at dksX1_bright_1 14 rfl rfl)
theorem dX1_bright_39 : decode cX1_bright 39 = .ok (.if_icmp .gt 6, 3) := dk_163 0 6 (dk_at dksX1_bright_1 15 rfl rfl)
theorem dX1_bright_42 : decode cX1_bright 42 = .ok (.goto 11, 3) := dk_167 0 11 (dk_at dksX1_bright_1 18 rfl rfl)
theorem dX1_bright_45 : decode cX1_bright 45 = .ok (.aload_n 1, 1) := dk_43 (dk_at dksX1_bright_1 21 rfl rfl)
theorem dX1_bright_46 : decode cX1_bright 46 = .ok (.getfield 299, 3) := dk_180 1 43 (dk_at dksX1_bright_2 0 rfl rfl)
theorem dX1_bright_49 : decode cX1_bright 49 = .ok (.istore_n 2, 1) := dk_61 (dk_at dksX1_bright_2 3 rfl rfl)
theorem dX1_bright_50 : decode cX1_bright 50 = .ok (.iload 4, 2) := dk_21 4 (dk_at dksX1_bright_2 4 rfl rfl)
theorem dX1_bright_52 : decode cX1_bright 52 = .ok (.istore_n 3, 1) := dk_62 (dk_at dksX1_bright_2 6 rfl rfl)
theorem dX1_bright_53 : decode cX1_bright 53 = .ok (.aload_n 1, 1) := dk_43 (dk_at dksX1_bright_2 7 rfl rfl)
theorem dX1_bright_54 : decode cX1_bright 54 = .ok (.dup, 1) := dk_89 (dk_at dksX1_bright_2 8 rfl rfl)
theorem dX1_bright_55 : decode cX1_bright 55 = .ok (.getfield 299, 3) := dk_180 1 43 (dk_at dksX1_bright_2 9 rfl rfl)
theorem dX1_bright_58 : decode cX1_bright 58 = .ok (.iconst 1, 1) := dk_4 (dk_at dksX1_bright_2 12 rfl rfl)
theorem dX1_bright_59 : decode cX1_bright 59 = .ok (.iadd, 1) := dk_96 (dk_at dksX1_bright_2 13 rfl rfl)
theorem dX1_bright_60 : decode cX1_bright 60 = .ok (.putfield 299, 3) := dk_181 1 43 (dk_at dksX1_bright_2 14 rfl rfl)
theorem dX1_bright_63 : decode cX1_bright 63 = .ok (.goto (-45), 3) := dk_167 255 211 (dk_at dksX1_bright_2 17 rfl rfl)
theorem dX1_bright_66 : decode cX1_bright 66 = .ok (.iload_n 2, 1) := dk_28 (dk_at dksX1_bright_2 20 rfl rfl)
theorem dX1_bright_67 : decode cX1_bright 67 = .ok (.ireturn, 1) := dk_172 (dk_at dksX1_bright_2 21 rfl rfl)
abbrev cX1_hunter : ByteArray := prog_1_method_56_code
def yX1_hunter : MethodName := ⟨RX1, "hunter", "()I"⟩
def dkwX1_hunter_2 : List UInt8 := [61, 132, 3, 1, 167, 255, 215, 28, 172]
abbrev dktX1_hunter_2 : List UInt8 := dkwX1_hunter_2 ++ []
def dkwX1_hunter_1 : List UInt8 := [162, 0, 31, 28, 2, 159, 0, 18, 43, 180, 0, 175, 29, 46, 43, 180, 0, 175, 28, 46, 164, 0, 5, 29]
abbrev dktX1_hunter_1 : List UInt8 := dkwX1_hunter_1 ++ dktX1_hunter_2
def dkwX1_hunter_0 : List UInt8 := [42, 182, 0, 128, 76, 2, 61, 3, 62, 29, 42, 180, 0, 19, 180, 0, 115, 185, 0, 118, 1, 0]
abbrev dktX1_hunter_0 : List UInt8 := dkwX1_hunter_0 ++ dktX1_hunter_1
theorem dksX1_hunter_0 : cX1_hunter.data.toList.drop 0 = dktX1_hunter_0 := by decide +kernel
theorem dksX1_hunter_1 : cX1_hunter.data.toList.drop 22 = dktX1_hunter_1 := dk_seg dksX1_hunter_0 22 rfl rfl
theorem dksX1_hunter_2 : cX1_hunter.data.toList.drop 46 = dktX1_hunter_2 := dk_seg dksX1_hunter_1 24 rfl rfl
theorem dX1_hunter_0 : decode cX1_hunter 0 = .ok (.aload_n 0, 1) := dk_42 (dk_at dksX1_hunter_0 0 rfl rfl)
theorem dX1_hunter_1 : decode cX1_hunter 1 = .ok (.invokevirtual 128, 3) := dk_182 0 128 (dk_at dksX1_hunter_0 1 rfl rfl)
theorem dX1_hunter_4 : decode cX1_hunter 4 = .ok (.astore_n 1, 1) := dk_76 (dk_at dksX1_hunter_0 4 rfl rfl)
theorem dX1_hunter_5 : decode cX1_hunter 5 = .ok (.iconst (-1), 1) := dk_2 (dk_at dksX1_hunter_0 5 rfl rfl)
theorem dX1_hunter_6 : decode cX1_hunter 6 = .ok (.istore_n 2, 1) := dk_61 (dk_at dksX1_hunter_0 6 rfl rfl)
theorem dX1_hunter_7 : decode cX1_hunter 7 = .ok (.iconst 0, 1) := dk_3 (dk_at dksX1_hunter_0 7 rfl rfl)
theorem dX1_hunter_8 : decode cX1_hunter 8 = .ok (.istore_n 3, 1) := dk_62 (dk_at dksX1_hunter_0 8 rfl rfl)
theorem dX1_hunter_9 : decode cX1_hunter 9 = .ok (.iload_n 3, 1) := dk_29 (dk_at dksX1_hunter_0 9 rfl rfl)
theorem dX1_hunter_10 : decode cX1_hunter 10 = .ok (.aload_n 0, 1) := dk_42 (dk_at dksX1_hunter_0 10 rfl rfl)
theorem dX1_hunter_11 : decode cX1_hunter 11 = .ok (.getfield 19, 3) := dk_180 0 19 (dk_at dksX1_hunter_0 11 rfl rfl)
theorem dX1_hunter_14 : decode cX1_hunter 14 = .ok (.getfield 115, 3) := dk_180 0 115 (dk_at dksX1_hunter_0 14 rfl rfl)
theorem dX1_hunter_17 : decode cX1_hunter 17 = .ok (.invokeinterface 118 1, 5) := by decide +kernel
theorem dX1_hunter_22 : decode cX1_hunter 22 = .ok (.if_icmp .ge 31, 3) := dk_162 0 31 (dk_at dksX1_hunter_1 0 rfl rfl)
theorem dX1_hunter_25 : decode cX1_hunter 25 = .ok (.iload_n 2, 1) := dk_28 (dk_at dksX1_hunter_1 3 rfl rfl)
theorem dX1_hunter_26 : decode cX1_hunter 26 = .ok (.iconst (-1), 1) := dk_2 (dk_at dksX1_hunter_1 4 rfl rfl)
theorem dX1_hunter_27 : decode cX1_hunter 27 = .ok (.if_icmp .eq 18, 3) := dk_159 0 18 (dk_at dksX1_hunter_1 5 rfl rfl)
theorem dX1_hunter_30 : decode cX1_hunter 30 = .ok (.aload_n 1, 1) := dk_43 (dk_at dksX1_hunter_1 8 rfl rfl)
theorem dX1_hunter_31 : decode cX1_hunter 31 = .ok (.getfield 175, 3) := dk_180 0 175 (dk_at dksX1_hunter_1 9 rfl rfl)
theorem dX1_hunter_34 : decode cX1_hunter 34 = .ok (.iload_n 3, 1) := dk_29 (dk_at dksX1_hunter_1 12 rfl rfl)
theorem dX1_hunter_35 : decode cX1_hunter 35 = .ok (.iaload, 1) := dk_46 (dk_at dksX1_hunter_1 13 rfl rfl)
theorem dX1_hunter_36 : decode cX1_hunter 36 = .ok (.aload_n 1, 1) := dk_43 (dk_at dksX1_hunter_1 14 rfl rfl)
theorem dX1_hunter_37 : decode cX1_hunter 37 = .ok (.getfield 175, 3) := dk_180 0 175 (dk_at dksX1_hunter_1 15 rfl rfl)
theorem dX1_hunter_40 : decode cX1_hunter 40 = .ok (.iload_n 2, 1) := dk_28 (dk_at dksX1_hunter_1 18 rfl rfl)
theorem dX1_hunter_41 : decode cX1_hunter 41 = .ok (.iaload, 1) := dk_46 (dk_at dksX1_hunter_1 19 rfl rfl)
theorem dX1_hunter_42 : decode cX1_hunter 42 = .ok (.if_icmp .le 5, 3) := dk_164 0 5 (dk_at dksX1_hunter_1 20 rfl rfl)
theorem dX1_hunter_45 : decode cX1_hunter 45 = .ok (.iload_n 3, 1) := dk_29 (dk_at dksX1_hunter_1 23 rfl rfl)
theorem dX1_hunter_46 : decode cX1_hunter 46 = .ok (.istore_n 2, 1) := dk_61 (dk_at dksX1_hunter_2 0 rfl rfl)
theorem dX1_hunter_47 : decode cX1_hunter 47 = .ok (.iinc 3 1, 3) := dk_132 3 1 (dk_at dksX1_hunter_2 1 rfl rfl)
theorem dX1_hunter_50 : decode cX1_hunter 50 = .ok (.goto (-41), 3) := dk_167 255 215 (dk_at dksX1_hunter_2 4 rfl rfl)
theorem dX1_hunter_53 : decode cX1_hunter 53 = .ok (.iload_n 2, 1) := dk_28 (dk_at dksX1_hunter_2 7 rfl rfl)
theorem dX1_hunter_54 : decode cX1_hunter 54 = .ok (.ireturn, 1) := dk_172 (dk_at dksX1_hunter_2 8 rfl rfl)
abbrev cX1_image : ByteArray := prog_1_method_62_code
def yX1_image : MethodName := ⟨RX1, "image", "()V"⟩
def dkwX1_image_1 : List UInt8 := [187, 0, 41, 89, 42, 180, 0, 48, 183, 1, 64, 181, 1, 70, 177]
abbrev dktX1_image_1 : List UInt8 := dkwX1_image_1 ++ []
def dkwX1_image_0 : List UInt8 := [42, 42, 182, 1, 60, 181, 0, 97, 42, 187, 0, 41, 89, 42, 180, 0, 44, 183, 1, 64, 181, 1, 67, 42]
abbrev dktX1_image_0 : List UInt8 := dkwX1_image_0 ++ dktX1_image_1
theorem dksX1_image_0 : cX1_image.data.toList.drop 0 = dktX1_image_0 := by decide +kernel
theorem dksX1_image_1 : cX1_image.data.toList.drop 24 = dktX1_image_1 := dk_seg dksX1_image_0 24 rfl rfl
theorem dX1_image_0 : decode cX1_image 0 = .ok (.aload_n 0, 1) := dk_42 (dk_at dksX1_image_0 0 rfl rfl)
theorem dX1_image_1 : decode cX1_image 1 = .ok (.aload_n 0, 1) := dk_42 (dk_at dksX1_image_0 1 rfl rfl)
theorem dX1_image_2 : decode cX1_image 2 = .ok (.invokevirtual 316, 3) := dk_182 1 60 (dk_at dksX1_image_0 2 rfl rfl)
theorem dX1_image_5 : decode cX1_image 5 = .ok (.putfield 97, 3) := dk_181 0 97 (dk_at dksX1_image_0 5 rfl rfl)
theorem dX1_image_8 : decode cX1_image 8 = .ok (.aload_n 0, 1) := dk_42 (dk_at dksX1_image_0 8 rfl rfl)
theorem dX1_image_9 : decode cX1_image 9 = .ok (.new 41, 3) := dk_187 0 41 (dk_at dksX1_image_0 9 rfl rfl)
theorem dX1_image_12 : decode cX1_image 12 = .ok (.dup, 1) := dk_89 (dk_at dksX1_image_0 12 rfl rfl)
theorem dX1_image_13 : decode cX1_image 13 = .ok (.aload_n 0, 1) := dk_42 (dk_at dksX1_image_0 13 rfl rfl)
theorem dX1_image_14 : decode cX1_image 14 = .ok (.getfield 44, 3) := dk_180 0 44 (dk_at dksX1_image_0 14 rfl rfl)
theorem dX1_image_17 : decode cX1_image 17 = .ok (.invokespecial 320, 3) := dk_183 1 64 (dk_at dksX1_image_0 17 rfl rfl)
theorem dX1_image_20 : decode cX1_image 20 = .ok (.putfield 323, 3) := dk_181 1 67 (dk_at dksX1_image_0 20 rfl rfl)
theorem dX1_image_23 : decode cX1_image 23 = .ok (.aload_n 0, 1) := dk_42 (dk_at dksX1_image_0 23 rfl rfl)
theorem dX1_image_24 : decode cX1_image 24 = .ok (.new 41, 3) := dk_187 0 41 (dk_at dksX1_image_1 0 rfl rfl)
theorem dX1_image_27 : decode cX1_image 27 = .ok (.dup, 1) := dk_89 (dk_at dksX1_image_1 3 rfl rfl)
theorem dX1_image_28 : decode cX1_image 28 = .ok (.aload_n 0, 1) := dk_42 (dk_at dksX1_image_1 4 rfl rfl)
theorem dX1_image_29 : decode cX1_image 29 = .ok (.getfield 48, 3) := dk_180 0 48 (dk_at dksX1_image_1 5 rfl rfl)
theorem dX1_image_32 : decode cX1_image 32 = .ok (.invokespecial 320, 3) := dk_183 1 64 (dk_at dksX1_image_1 8 rfl rfl)
theorem dX1_image_35 : decode cX1_image 35 = .ok (.putfield 326, 3) := dk_181 1 70 (dk_at dksX1_image_1 11 rfl rfl)
theorem dX1_image_38 : decode cX1_image 38 = .ok (.return_, 1) := dk_177 (dk_at dksX1_image_1 14 rfl rfl)
abbrev cX1_settings : ByteArray := prog_1_method_61_code
def yX1_settings : MethodName := ⟨RX1, "settings", "()[I"⟩
def dkwX1_settings_5 : List UInt8 := [167, 255, 212, 43, 176]
abbrev dktX1_settings_5 : List UInt8 := dkwX1_settings_5 ++ []
def dkwX1_settings_4 : List UInt8 := [180, 0, 19, 180, 0, 115, 28, 185, 0, 145, 2, 0, 192, 0, 149, 180, 0, 171, 79, 132, 2, 1]
abbrev dktX1_settings_4 : List UInt8 := dkwX1_settings_4 ++ dktX1_settings_5
def dkwX1_settings_3 : List UInt8 := [61, 28, 42, 180, 0, 19, 180, 0, 115, 185, 0, 118, 1, 0, 162, 0, 34, 43, 16, 14, 28, 96, 42]
abbrev dktX1_settings_3 : List UInt8 := dkwX1_settings_3 ++ dktX1_settings_4
def dkwX1_settings_2 : List UInt8 := [162, 0, 23, 43, 7, 28, 96, 42, 180, 0, 19, 180, 0, 156, 28, 46, 79, 132, 2, 1, 167, 255, 233, 3]
abbrev dktX1_settings_2 : List UInt8 := dkwX1_settings_2 ++ dktX1_settings_3
def dkwX1_settings_1 : List UInt8 := [180, 0, 90, 153, 0, 7, 4, 167, 0, 4, 3, 79, 43, 6, 42, 180, 0, 87, 79, 3, 61, 28, 16, 10]
abbrev dktX1_settings_1 : List UInt8 := dkwX1_settings_1 ++ dktX1_settings_2
def dkwX1_settings_0 : List UInt8 := [16, 19, 188, 10, 76, 43, 3, 42, 180, 0, 27, 79, 43, 4, 42, 180, 0, 84, 79, 43, 5, 42]
abbrev dktX1_settings_0 : List UInt8 := dkwX1_settings_0 ++ dktX1_settings_1
theorem dksX1_settings_0 : cX1_settings.data.toList.drop 0 = dktX1_settings_0 := by decide +kernel
theorem dksX1_settings_1 : cX1_settings.data.toList.drop 22 = dktX1_settings_1 := dk_seg dksX1_settings_0 22 rfl rfl
theorem dksX1_settings_2 : cX1_settings.data.toList.drop 46 = dktX1_settings_2 := dk_seg dksX1_settings_1 24 rfl rfl
theorem dksX1_settings_3 : cX1_settings.data.toList.drop 70 = dktX1_settings_3 := dk_seg dksX1_settings_2 24 rfl rfl
theorem dksX1_settings_4 : cX1_settings.data.toList.drop 93 = dktX1_settings_4 := dk_seg dksX1_settings_3 23 rfl rfl
theorem dksX1_settings_5 : cX1_settings.data.toList.drop 115 = dktX1_settings_5 := dk_seg dksX1_settings_4 22 rfl rfl
theorem dX1_settings_0 : decode cX1_settings 0 = .ok (.bipush 19, 2) := dk_16 19 (dk_at dksX1_settings_0 0 rfl rfl)
theorem dX1_settings_2 : decode cX1_settings 2 = .ok (.newarray .int, 2) := dk_188_10 (dk_at dksX1_settings_0 2 rfl rfl)
theorem dX1_settings_4 : decode cX1_settings 4 = .ok (.astore_n 1, 1) := dk_76 (dk_at dksX1_settings_0 4 rfl rfl)
theorem dX1_settings_5 : decode cX1_settings 5 = .ok (.aload_n 1, 1) := dk_43 (dk_at dksX1_settings_0 5 rfl rfl)
theorem dX1_settings_6 : decode cX1_settings 6 = .ok (.iconst 0, 1) := dk_3 (dk_at dksX1_settings_0 6 rfl rfl)
theorem dX1_settings_7 : decode cX1_settings 7 = .ok (.aload_n 0, 1) := dk_42 (dk_at dksX1_settings_0 7 rfl rfl)
theorem dX1_settings_8 : decode cX1_settings 8 = .ok (.getfield 27, 3) := dk_180 0 27 (dk_at dksX1_settings_0 8 rfl rfl)
theorem dX1_settings_11 : decode cX1_settings 11 = .ok (.iastore, 1) := dk_79 (dk_at dksX1_settings_0 11 rfl rfl)
theorem dX1_settings_12 : decode cX1_settings 12 = .ok (.aload_n 1, 1) := dk_43 (dk_at dksX1_settings_0 12 rfl rfl)
theorem dX1_settings_13 : decode cX1_settings 13 = .ok (.iconst 1, 1) := dk_4 (dk_at dksX1_settings_0 13 rfl rfl)
theorem dX1_settings_14 : decode cX1_settings 14 = .ok (.aload_n 0, 1) := dk_42 (dk_at dksX1_settings_0 14 rfl rfl)
theorem dX1_settings_15 : decode cX1_settings 15 = .ok (.getfield 84, 3) := dk_180 0 84 (dk_at dksX1_settings_0 15 rfl rfl)
theorem dX1_settings_18 : decode cX1_settings 18 = .ok (.iastore, 1) := dk_79 (dk_at dksX1_settings_0 18 rfl rfl)
theorem dX1_settings_19 : decode cX1_settings 19 = .ok (.aload_n 1, 1) := dk_43 (dk_at dksX1_settings_0 19 rfl rfl)
theorem dX1_settings_20 : decode cX1_settings 20 = .ok (.iconst 2, 1) := dk_5 (dk_at dksX1_settings_0 20 rfl rfl)
theorem dX1_settings_21 : decode cX1_settings 21 = .ok (.aload_n 0, 1) := dk_42 (dk_at dksX1_settings_0 21 rfl rfl)
theorem dX1_settings_22 : decode cX1_settings 22 = .ok (.getfield 90, 3) := dk_180 0 90 (dk_at dksX1_settings_1 0 rfl rfl)
theorem dX1_settings_25 : decode cX1_settings 25 = .ok (.ifCond .eq 7, 3) := dk_153 0 7 (dk_at dksX1_settings_1 3 rfl rfl)
theorem dX1_settings_28 : decode cX1_settings 28 = .ok (.iconst 1, 1) := dk_4 (dk_at dksX1_settings_1 6 rfl rfl)
theorem dX1_settings_29 : decode cX1_settings 29 = .ok (.goto 4, 3) := dk_167 0 4 (dk_at dksX1_settings_1 7 rfl rfl)
theorem dX1_settings_32 : decode cX1_settings 32 = .ok (.iconst 0, 1) := dk_3 (dk_at dksX1_settings_1 10 rfl rfl)
theorem dX1_settings_33 : decode cX1_settings 33 = .ok (.iastore, 1) := dk_79 (dk_at dksX1_settings_1 11 rfl rfl)
theorem dX1_settings_34 : decode cX1_settings 34 = .ok (.aload_n 1, 1) := dk_43 (dk_at dksX1_settings_1 12 rfl rfl)
theorem dX1_settings_35 : decode cX1_settings 35 = .ok (.iconst 3, 1) := dk_6 (dk_at dksX1_settings_1 13 rfl rfl)
theorem dX1_settings_36 : decode cX1_settings 36 = .ok (.aload_n 0, 1) := dk_42 (dk_at dksX1_settings_1 14 rfl rfl)
theorem dX1_settings_37 : decode cX1_settings 37 = .ok (.getfield 87, 3) := dk_180 0 87 (dk_at dksX1_settings_1 15 rfl rfl)
theorem dX1_settings_40 : decode cX1_settings 40 = .ok (.iastore, 1) := dk_79 (dk_at dksX1_settings_1 18 rfl rfl)
theorem dX1_settings_41 : decode cX1_settings 41 = .ok (.iconst 0, 1) := dk_3 (dk_at dksX1_settings_1 19 rfl rfl)
theorem dX1_settings_42 : decode cX1_settings 42 = .ok (.istore_n 2, 1) := dk_61 (dk_at dksX1_settings_1 20 rfl rfl)
theorem dX1_settings_43 : decode cX1_settings 43 = .ok (.iload_n 2, 1) := dk_28 (dk_at dksX1_settings_1 21 rfl rfl)
theorem dX1_settings_44 : decode cX1_settings 44 = .ok (.bipush 10, 2) := dk_16 10 (dk_at dksX1_settings_1 22 rfl rfl)
theorem dX1_settings_46 : decode cX1_settings 46 = .ok (.if_icmp .ge 23, 3) := dk_162 0 23 (dk_at dksX1_settings_2 0 rfl rfl)
theorem dX1_settings_49 : decode cX1_settings 49 = .ok (.aload_n 1, 1) := dk_43 (dk_at dksX1_settings_2 3 rfl rfl)
theorem dX1_settings_50 : decode cX1_settings 50 = .ok (.iconst 4, 1) := dk_7 (dk_at dksX1_settings_2 4 rfl rfl)
theorem dX1_settings_51 : decode cX1_settings 51 = .ok (.iload_n 2, 1) := dk_28 (dk_at dksX1_settings_2 5 rfl rfl)
theorem dX1_settings_52 : decode cX1_settings 52 = .ok (.iadd, 1) := dk_96 (dk_at dksX1_settings_2 6 rfl rfl)
theorem dX1_settings_53 : decode cX1_settings 53 = .ok (.aload_n 0, 1) := dk_42 (dk_at dksX1_settings_2 7 rfl rfl)
theorem dX1_settings_54 : decode cX1_settings 54 = .ok (.getfield 19, 3) := dk_180 0 19 (dk_at dksX1_settings_2 8 rfl rfl)
theorem dX1_settings_57 : decode cX1_settings 57 = .ok (.getfield 156, 3) := dk_180 0 156 (dk_at dksX1_settings_2 11 rfl rfl)
theorem dX1_settings_60 : decode cX1_settings 60 = .ok (.iload_n 2, 1) := dk_28 (dk_at dksX1_settings_2 14 rfl rfl)
theorem dX1_settings_61 : decode cX1_settings 61 = .ok (.iaload, 1) := dk_46 (dk_at dksX1_settings_2 15 rfl rfl)
theorem dX1_settings_62 : decode cX1_settings 62 = .ok (.iastore, 1) := dk_79 (dk_at dksX1_settings_2 16 rfl rfl)
theorem dX1_settings_63 : decode cX1_settings 63 = .ok (.iinc 2 1, 3) := dk_132 2 1 (dk_at dksX1_settings_2 17 rfl rfl)
theorem dX1_settings_66 : decode cX1_settings 66 = .ok (.goto (-23), 3) := dk_167 255 233 (dk_at dksX1_settings_2 20 rfl rfl)
theorem dX1_settings_69 : decode cX1_settings 69 = .ok (.iconst 0, 1) := dk_3 (dk_at dksX1_settings_2 23 rfl rfl)
theorem dX1_settings_70 : decode cX1_settings 70 = .ok (.istore_n 2, 1) := dk_61 (dk_at dksX1_settings_3 0 rfl rfl)
theorem dX1_settings_71 : decode cX1_settings 71 = .ok (.iload_n 2, 1) := dk_28 (dk_at dksX1_settings_3 1 rfl rfl)
theorem dX1_settings_72 : decode cX1_settings 72 = .ok (.aload_n 0, 1) := dk_42 (dk_at dksX1_settings_3 2 rfl rfl)
theorem dX1_settings_73 : decode cX1_settings 73 = .ok (.getfield 19, 3) := dk_180 0 19 (dk_at dksX1_settings_3 3 rfl rfl)
theorem dX1_settings_76 : decode cX1_settings 76 = .ok (.getfield 115, 3) := dk_180 0 115 (dk_at dksX1_settings_3 6 rfl rfl)
theorem dX1_settings_79 : decode cX1_settings 79 = .ok (.invokeinterface 118 1, 5) := by decide +kernel
theorem dX1_settings_84 : decode cX1_settings 84 = .ok (.if_icmp .ge 34, 3) := dk_162 0 34 (dk_at dksX1_settings_3 14 rfl rfl)
theorem dX1_settings_87 : decode cX1_settings 87 = .ok (.aload_n 1, 1) := dk_43 (dk_at dksX1_settings_3 17 rfl rfl)
theorem dX1_settings_88 : decode cX1_settings 88 = .ok (.bipush 14, 2) := dk_16 14 (dk_at dksX1_settings_3 18 rfl rfl)
theorem dX1_settings_90 : decode cX1_settings 90 = .ok (.iload_n 2, 1) := dk_28 (dk_at dksX1_settings_3 20 rfl rfl)
theorem dX1_settings_91 : decode cX1_settings 91 = .ok (.iadd, 1) := dk_96 (dk_at dksX1_settings_3 21 rfl rfl)
theorem dX1_settings_92 : decode cX1_settings 92 = .ok (.aload_n 0, 1) := dk_42 (dk_at dksX1_settings_3 22 rfl rfl)
theorem dX1_settings_93 : decode cX1_settings 93 = .ok (.getfield 19, 3) := dk_180 0 19 (dk_at dksX1_settings_4 0 rfl rfl)
theorem dX1_settings_96 : decode cX1_settings 96 = .ok (.getfield 115, 3) := dk_180 0 115 (dk_at dksX1_settings_4 3 rfl rfl)
theorem dX1_settings_99 : decode cX1_settings 99 = .ok (.iload_n 2, 1) := dk_28 (dk_at dksX1_settings_4 6 rfl rfl)
theorem dX1_settings_100 : decode cX1_settings 100 = .ok (.invokeinterface 145 2, 5) := by decide +kernel
theorem dX1_settings_105 : decode cX1_settings 105 = .ok (.checkcast 149, 3) := dk_192 0 149 (dk_at dksX1_settings_4 12 rfl rfl)
theorem dX1_settings_108 : decode cX1_settings 108 = .ok (.getfield 171, 3) := dk_180 0 171 (dk_at dksX1_settings_4 15 rfl rfl)
theorem dX1_settings_111 : decode cX1_settings 111 = .ok (.iastore, 1) := dk_79 (dk_at dksX1_settings_4 18 rfl rfl)
theorem dX1_settings_112 : decode cX1_settings 112 = .ok (.iinc 2 1, 3) := dk_132 2 1 (dk_at dksX1_settings_4 19 rfl rfl)
theorem dX1_settings_115 : decode cX1_settings 115 = .ok (.goto (-44), 3) := dk_167 255 212 (dk_at dksX1_settings_5 0 rfl rfl)
theorem dX1_settings_118 : decode cX1_settings 118 = .ok (.aload_n 1, 1) := dk_43 (dk_at dksX1_settings_5 3 rfl rfl)
theorem dX1_settings_119 : decode cX1_settings 119 = .ok (.areturn, 1) := dk_176 (dk_at dksX1_settings_5 4 rfl rfl)
abbrev cX1_restore : ByteArray := prog_1_method_63_code
def yX1_restore : MethodName := ⟨RX1, "restore", "()Z"⟩
def dkwX1_restore_7 : List UInt8 := [180, 1, 70, 183, 1, 64, 181, 0, 48, 4, 172]
abbrev dktX1_restore_7 : List UInt8 := dkwX1_restore_7 ++ []
def dkwX1_restore_6 : List UInt8 := [167, 255, 209, 42, 187, 0, 41, 89, 42, 180, 1, 67, 183, 1, 64, 181, 0, 44, 42, 187, 0, 41, 89, 42]
abbrev dktX1_restore_6 : List UInt8 := dkwX1_restore_6 ++ dktX1_restore_7
def dkwX1_restore_5 : List UInt8 := [185, 0, 145, 2, 0, 192, 0, 149, 42, 180, 0, 97, 16, 14, 27, 96, 46, 181, 0, 171, 132, 1, 1]
abbrev dktX1_restore_5 : List UInt8 := dkwX1_restore_5 ++ dktX1_restore_6
def dkwX1_restore_4 : List UInt8 := [180, 0, 19, 180, 0, 115, 185, 0, 118, 1, 0, 162, 0, 37, 42, 180, 0, 19, 180, 0, 115, 27]
abbrev dktX1_restore_4 : List UInt8 := dkwX1_restore_4 ++ dktX1_restore_5
def dkwX1_restore_3 : List UInt8 := [180, 0, 156, 27, 42, 180, 0, 97, 7, 27, 96, 46, 79, 132, 1, 1, 167, 255, 230, 3, 60, 27, 42]
abbrev dktX1_restore_3 : List UInt8 := dkwX1_restore_3 ++ dktX1_restore_4
def dkwX1_restore_2 : List UInt8 := [42, 42, 180, 0, 97, 6, 46, 181, 0, 87, 3, 60, 27, 16, 10, 162, 0, 26, 42, 180, 0, 19]
abbrev dktX1_restore_2 : List UInt8 := dkwX1_restore_2 ++ dktX1_restore_3
def dkwX1_restore_1 : List UInt8 := [4, 46, 181, 0, 84, 42, 42, 180, 0, 97, 5, 46, 4, 160, 0, 7, 4, 167, 0, 4, 3, 181, 0, 90]
abbrev dktX1_restore_1 : List UInt8 := dkwX1_restore_1 ++ dktX1_restore_2
def dkwX1_restore_0 : List UInt8 := [42, 180, 0, 97, 199, 0, 5, 3, 172, 42, 42, 180, 0, 97, 3, 46, 181, 0, 27, 42, 42, 180, 0, 97]
abbrev dktX1_restore_0 : List UInt8 := dkwX1_restore_0 ++ dktX1_restore_1
theorem dksX1_restore_0 : cX1_restore.data.toList.drop 0 = dktX1_restore_0 := by decide +kernel
theorem dksX1_restore_1 : cX1_restore.data.toList.drop 24 = dktX1_restore_1 := dk_seg dksX1_restore_0 24 rfl rfl
theorem dksX1_restore_2 : cX1_restore.data.toList.drop 48 = dktX1_restore_2 := dk_seg dksX1_restore_1 24 rfl rfl
theorem dksX1_restore_3 : cX1_restore.data.toList.drop 70 = dktX1_restore_3 := dk_seg dksX1_restore_2 22 rfl rfl
theorem dksX1_restore_4 : cX1_restore.data.toList.drop 93 = dktX1_restore_4 := dk_seg dksX1_restore_3 23 rfl rfl
theorem dksX1_restore_5 : cX1_restore.data.toList.drop 115 = dktX1_restore_5 := dk_seg dksX1_restore_4 22 rfl rfl
theorem dksX1_restore_6 : cX1_restore.data.toList.drop 138 = dktX1_restore_6 := dk_seg dksX1_restore_5 23 rfl rfl
theorem dksX1_restore_7 : cX1_restore.data.toList.drop 162 = dktX1_restore_7 := dk_seg dksX1_restore_6 24 rfl rfl
theorem dX1_restore_0 : decode cX1_restore 0 = .ok (.aload_n 0, 1) := dk_42 (dk_at dksX1_restore_0 0 rfl rfl)
theorem dX1_restore_1 : decode cX1_restore 1 = .ok (.getfield 97, 3) := dk_180 0 97 (dk_at dksX1_restore_0 1 rfl rfl)
theorem dX1_restore_4 : decode cX1_restore 4 = .ok (.ifnonnull 5, 3) := dk_199 0 5 (dk_at dksX1_restore_0 4 rfl rfl)
theorem dX1_restore_7 : decode cX1_restore 7 = .ok (.iconst 0, 1) := dk_3 (dk_at dksX1_restore_0 7 rfl rfl)
theorem dX1_restore_8 : decode cX1_restore 8 = .ok (.ireturn, 1) := dk_172 (dk_at dksX1_restore_0 8 rfl rfl)
theorem dX1_restore_9 : decode cX1_restore 9 = .ok (.aload_n 0, 1) := dk_42 (dk_at dksX1_restore_0 9 rfl rfl)
theorem dX1_restore_10 : decode cX1_restore 10 = .ok (.aload_n 0, 1) := dk_42 (dk_at dksX1_restore_0 10 rfl rfl)
theorem dX1_restore_11 : decode cX1_restore 11 = .ok (.getfield 97, 3) := dk_180 0 97 (dk_at dksX1_restore_0 11 rfl rfl)
theorem dX1_restore_14 : decode cX1_restore 14 = .ok (.iconst 0, 1) := dk_3 (dk_at dksX1_restore_0 14 rfl rfl)
theorem dX1_restore_15 : decode cX1_restore 15 = .ok (.iaload, 1) := dk_46 (dk_at dksX1_restore_0 15 rfl rfl)
theorem dX1_restore_16 : decode cX1_restore 16 = .ok (.putfield 27, 3) := dk_181 0 27 (dk_at dksX1_restore_0 16 rfl rfl)
theorem dX1_restore_19 : decode cX1_restore 19 = .ok (.aload_n 0, 1) := dk_42 (dk_at dksX1_restore_0 19 rfl rfl)
theorem dX1_restore_20 : decode cX1_restore 20 = .ok (.aload_n 0, 1) := dk_42 (dk_at dksX1_restore_0 20 rfl rfl)
theorem dX1_restore_21 : decode cX1_restore 21 = .ok (.getfield 97, 3) := dk_180 0 97 (dk_at dksX1_restore_0 21 rfl rfl)
theorem dX1_restore_24 : decode cX1_restore 24 = .ok (.iconst 1, 1) := dk_4 (dk_at dksX1_restore_1 0 rfl rfl)
theorem dX1_restore_25 : decode cX1_restore 25 = .ok (.iaload, 1) := dk_46 (dk_at dksX1_restore_1 1 rfl rfl)
theorem dX1_restore_26 : decode cX1_restore 26 = .ok (.putfield 84, 3) := dk_181 0 84 (dk_at dksX1_restore_1 2 rfl rfl)
theorem dX1_restore_29 : decode cX1_restore 29 = .ok (.aload_n 0, 1) := dk_42 (dk_at dksX1_restore_1 5 rfl rfl)
theorem dX1_restore_30 : decode cX1_restore 30 = .ok (.aload_n 0, 1) := dk_42 (dk_at dksX1_restore_1 6 rfl rfl)
theorem dX1_restore_31 : decode cX1_restore 31 = .ok (.getfield 97, 3) := dk_180 0 97 (dk_at dksX1_restore_1 7 rfl rfl)
theorem dX1_restore_34 : decode cX1_restore 34 = .ok (.iconst 2, 1) := dk_5 (dk_at dksX1_restore_1 10 rfl rfl)
theorem dX1_restore_35 : decode cX1_restore 35 = .ok (.iaload, 1) := dk_46 (dk_at dksX1_restore_1 11 rfl rfl)
theorem dX1_restore_36 : decode cX1_restore 36 = .ok (.iconst 1, 1) := dk_4 (dk_at dksX1_restore_1 12 rfl rfl)
theorem dX1_restore_37 : decode cX1_restore 37 = .ok (.if_icmp .ne 7, 3) := dk_160 0 7 (dk_at dksX1_restore_1 13 rfl rfl)
theorem dX1_restore_40 : decode cX1_restore 40 = .ok (.iconst 1, 1) := dk_4 (dk_at dksX1_restore_1 16 rfl rfl)
theorem dX1_restore_41 : decode cX1_restore 41 = .ok (.goto 4, 3) := dk_167 0 4 (dk_at dksX1_restore_1 17 rfl rfl)
theorem dX1_restore_44 : decode cX1_restore 44 = .ok (.iconst 0, 1) := dk_3 (dk_at dksX1_restore_1 20 rfl rfl)
theorem dX1_restore_45 : decode cX1_restore 45 = .ok (.putfield 90, 3) := dk_181 0 90 (dk_at dksX1_restore_1 21 rfl rfl)
theorem dX1_restore_48 : decode cX1_restore 48 = .ok (.aload_n 0, 1) := dk_42 (dk_at dksX1_restore_2 0 rfl rfl)
theorem dX1_restore_49 : decode cX1_restore 49 = .ok (.aload_n 0, 1) := dk_42 (dk_at dksX1_restore_2 1 rfl rfl)
theorem dX1_restore_50 : decode cX1_restore 50 = .ok (.getfield 97, 3) := dk_180 0 97 (dk_at dksX1_restore_2 2 rfl rfl)
theorem dX1_restore_53 : decode cX1_restore 53 = .ok (.iconst 3, 1) := dk_6 (dk_at dksX1_restore_2 5 rfl rfl)
theorem dX1_restore_54 : decode cX1_restore 54 = .ok (.iaload, 1) := dk_46 (dk_at dksX1_restore_2 6 rfl rfl)
theorem dX1_restore_55 : decode cX1_restore 55 = .ok (.putfield 87, 3) := dk_181 0 87 (dk_at dksX1_restore_2 7 rfl rfl)
theorem dX1_restore_58 : decode cX1_restore 58 = .ok (.iconst 0, 1) := dk_3 (dk_at dksX1_restore_2 10 rfl rfl)
theorem dX1_restore_59 : decode cX1_restore 59 = .ok (.istore_n 1, 1) := dk_60 (dk_at dksX1_restore_2 11 rfl rfl)
theorem dX1_restore_60 : decode cX1_restore 60 = .ok (.iload_n 1, 1) := dk_27 (dk_at dksX1_restore_2 12 rfl rfl)
theorem dX1_restore_61 : decode cX1_restore 61 = .ok (.bipush 10, 2) := dk_16 10 (dk_at dksX1_restore_2 13 rfl rfl)
theorem dX1_restore_63 : decode cX1_restore 63 = .ok (.if_icmp .ge 26, 3) := dk_162 0 26 (dk_at dksX1_restore_2 15 rfl rfl)
theorem dX1_restore_66 : decode cX1_restore 66 = .ok (.aload_n 0, 1) := dk_42 (dk_at dksX1_restore_2 18 rfl rfl)
theorem dX1_restore_67 : decode cX1_restore 67 = .ok (.getfield 19, 3) := dk_180 0 19 (dk_at dksX1_restore_2 19 rfl rfl)
theorem dX1_restore_70 : decode cX1_restore 70 = .ok (.getfield 156, 3) := dk_180 0 156 (dk_at dksX1_restore_3 0 rfl rfl)
theorem dX1_restore_73 : decode cX1_restore 73 = .ok (.iload_n 1, 1) := dk_27 (dk_at dksX1_restore_3 3 rfl rfl)
theorem dX1_restore_74 : decode cX1_restore 74 = .ok (.aload_n 0, 1) := dk_42 (dk_at dksX1_restore_3 4 rfl rfl)
theorem dX1_restore_75 : decode cX1_restore 75 = .ok (.getfield 97, 3) := dk_180 0 97 (dk_at dksX1_restore_3 5 rfl rfl)
theorem dX1_restore_78 : decode cX1_restore 78 = .ok (.iconst 4, 1) := dk_7 (dk_at dksX1_restore_3 8 rfl rfl)
theorem dX1_restore_79 : decode cX1_restore 79 = .ok (.iload_n 1, 1) := dk_27 (dk_at dksX1_restore_3 9 rfl rfl)
theorem dX1_restore_80 : decode cX1_restore 80 = .ok (.iadd, 1) := dk_96 (dk_at dksX1_restore_3 10 rfl rfl)
theorem dX1_restore_81 : decode cX1_restore 81 = .ok (.iaload, 1) := dk_46 (dk_at dksX1_restore_3 11 rfl rfl)
theorem dX1_restore_82 : decode cX1_restore 82 = .ok (.iastore, 1) := dk_79 (dk_at dksX1_restore_3 12 rfl rfl)
theorem dX1_restore_83 : decode cX1_restore 83 = .ok (.iinc 1 1, 3) := dk_132 1 1 (dk_at dksX1_restore_3 13 rfl rfl)
theorem dX1_restore_86 : decode cX1_restore 86 = .ok (.goto (-26), 3) := dk_167 255 230 (dk_at dksX1_restore_3 16 rfl rfl)
theorem dX1_restore_89 : decode cX1_restore 89 = .ok (.iconst 0, 1) := dk_3 (dk_at dksX1_restore_3 19 rfl rfl)
theorem dX1_restore_90 : decode cX1_restore 90 = .ok (.istore_n 1, 1) := dk_60 (dk_at dksX1_restore_3 20 rfl rfl)
theorem dX1_restore_91 : decode cX1_restore 91 = .ok (.iload_n 1, 1) := dk_27 (dk_at dksX1_restore_3 21 rfl rfl)
theorem dX1_restore_92 : decode cX1_restore 92 = .ok (.aload_n 0, 1) := dk_42 (dk_at dksX1_restore_3 22 rfl rfl)
theorem dX1_restore_93 : decode cX1_restore 93 = .ok (.getfield 19, 3) := dk_180 0 19 (dk_at dksX1_restore_4 0 rfl rfl)
theorem dX1_restore_96 : decode cX1_restore 96 = .ok (.getfield 115, 3) := dk_180 0 115 (dk_at dksX1_restore_4 3 rfl rfl)
theorem dX1_restore_99 : decode cX1_restore 99 = .ok (.invokeinterface 118 1, 5) := by decide +kernel
theorem dX1_restore_104 : decode cX1_restore 104 = .ok (.if_icmp .ge 37, 3) := dk_162 0 37 (dk_at dksX1_restore_4 11 rfl rfl)
theorem dX1_restore_107 : decode cX1_restore 107 = .ok (.aload_n 0, 1) := dk_42 (dk_at dksX1_restore_4 14 rfl rfl)
theorem dX1_restore_108 : decode cX1_restore 108 = .ok (.getfield 19, 3) := dk_180 0 19 (dk_at dksX1_restore_4 15 rfl rfl)
theorem dX1_restore_111 : decode cX1_restore 111 = .ok (.getfield 115, 3) := dk_180 0 115 (dk_at dksX1_restore_4 18 rfl rfl)
theorem dX1_restore_114 : decode cX1_restore 114 = .ok (.iload_n 1, 1) := dk_27 (dk_at dksX1_restore_4 21 rfl rfl)
theorem dX1_restore_115 : decode cX1_restore 115 = .ok (.invokeinterface 145 2, 5) := by decide +kernel
theorem dX1_restore_120 : decode cX1_restore 120 = .ok (.checkcast 149, 3) := dk_192 0 149 (dk_at dksX1_restore_5 5 rfl rfl)
theorem dX1_restore_123 : decode cX1_restore 123 = .ok (.aload_n 0, 1) := dk_42 (dk_at dksX1_restore_5 8 rfl rfl)
theorem dX1_restore_124 : decode cX1_restore 124 = .ok (.getfield 97, 3) := dk_180 0 97 (dk_at dksX1_restore_5 9 rfl rfl)
theorem dX1_restore_127 : decode cX1_restore 127 = .ok (.bipush 14, 2) := dk_16 14 (dk_at dksX1_restore_5 12 rfl rfl)
theorem dX1_restore_129 : decode cX1_restore 129 = .ok (.iload_n 1, 1) := dk_27 (dk_at dksX1_restore_5 14 rfl rfl)
theorem dX1_restore_130 : decode cX1_restore 130 = .ok (.iadd, 1) := dk_96 (dk_at dksX1_restore_5 15 rfl rfl)
theorem dX1_restore_131 : decode cX1_restore 131 = .ok (.iaload, 1) := dk_46 (dk_at dksX1_restore_5 16 rfl rfl)
theorem dX1_restore_132 : decode cX1_restore 132 = .ok (.putfield 171, 3) := dk_181 0 171 (dk_at dksX1_restore_5 17 rfl rfl)
theorem dX1_restore_135 : decode cX1_restore 135 = .ok (.iinc 1 1, 3) := dk_132 1 1 (dk_at dksX1_restore_5 20 rfl rfl)
theorem dX1_restore_138 : decode cX1_restore 138 = .ok (.goto (-47), 3) := dk_167 255 209 (dk_at dksX1_restore_6 0 rfl rfl)
theorem dX1_restore_141 : decode cX1_restore 141 = .ok (.aload_n 0, 1) := dk_42 (dk_at dksX1_restore_6 3 rfl rfl)
theorem dX1_restore_142 : decode cX1_restore 142 = .ok (.new 41, 3) := dk_187 0 41 (dk_at dksX1_restore_6 4 rfl rfl)
theorem dX1_restore_145 : decode cX1_restore 145 = .ok (.dup, 1) := dk_89 (dk_at dksX1_restore_6 7 rfl rfl)
theorem dX1_restore_146 : decode cX1_restore 146 = .ok (.aload_n 0, 1) := dk_42 (dk_at dksX1_restore_6 8 rfl rfl)
theorem dX1_restore_147 : decode cX1_restore 147 = .ok (.getfield 323, 3) := dk_180 1 67 (dk_at dksX1_restore_6 9 rfl rfl)
theorem dX1_restore_150 : decode cX1_restore 150 = .ok (.invokespecial 320, 3) := dk_183 1 64 (dk_at dksX1_restore_6 12 rfl rfl)
theorem dX1_restore_153 : decode cX1_restore 153 = .ok (.putfield 44, 3) := dk_181 0 44 (dk_at dksX1_restore_6 15 rfl rfl)
theorem dX1_restore_156 : decode cX1_restore 156 = .ok (.aload_n 0, 1) := dk_42 (dk_at dksX1_restore_6 18 rfl rfl)
theorem dX1_restore_157 : decode cX1_restore 157 = .ok (.new 41, 3) := dk_187 0 41 (dk_at dksX1_restore_6 19 rfl rfl)
theorem dX1_restore_160 : decode cX1_restore 160 = .ok (.dup, 1) := dk_89 (dk_at dksX1_restore_6 22 rfl rfl)
theorem dX1_restore_161 : decode cX1_restore 161 = .ok (.aload_n 0, 1) := dk_42 (dk_at dksX1_restore_6 23 rfl rfl)
theorem dX1_restore_162 : decode cX1_restore 162 = .ok (.getfield 326, 3) := dk_180 1 70 (dk_at dksX1_restore_7 0 rfl rfl)
theorem dX1_restore_165 : decode cX1_restore 165 = .ok (.invokespecial 320, 3) := dk_183 1 64 (dk_at dksX1_restore_7 3 rfl rfl)
theorem dX1_restore_168 : decode cX1_restore 168 = .ok (.putfield 48, 3) := dk_181 0 48 (dk_at dksX1_restore_7 6 rfl rfl)
theorem dX1_restore_171 : decode cX1_restore 171 = .ok (.iconst 1, 1) := dk_4 (dk_at dksX1_restore_7 9 rfl rfl)
theorem dX1_restore_172 : decode cX1_restore 172 = .ok (.ireturn, 1) := dk_172 (dk_at dksX1_restore_7 10 rfl rfl)
abbrev cX1_city : ByteArray := prog_1_method_8_code
def yX1_city : MethodName := ⟨RX1, "city", "(I)I"⟩
def dkwX1_city_6 : List UInt8 := [181, 0, 94, 42, 1, 181, 0, 97, 3, 172]
abbrev dktX1_city_6 : List UInt8 := dkwX1_city_6 ++ []
def dkwX1_city_5 : List UInt8 := [187, 0, 41, 89, 183, 0, 43, 181, 0, 44, 42, 187, 0, 41, 89, 183, 0, 43, 181, 0, 48, 42, 1]
abbrev dktX1_city_5 : List UInt8 := dkwX1_city_5 ++ dktX1_city_6
def dkwX1_city_4 : List UInt8 := [167, 0, 4, 3, 181, 0, 27, 42, 3, 181, 0, 84, 42, 3, 181, 0, 87, 42, 3, 181, 0, 90, 42]
abbrev dktX1_city_4 : List UInt8 := dkwX1_city_4 ++ dktX1_city_5
def dkwX1_city_3 : List UInt8 := [79, 45, 180, 0, 72, 172, 42, 42, 180, 0, 19, 180, 0, 75, 185, 0, 78, 1, 0, 153, 0, 7, 2]
abbrev dktX1_city_3 : List UInt8 := dkwX1_city_3 ++ dktX1_city_4
def dkwX1_city_2 : List UInt8 := [181, 0, 19, 167, 0, 27, 78, 42, 44, 180, 0, 69, 181, 0, 35, 42, 180, 0, 38, 3, 92, 46, 4, 96]
abbrev dktX1_city_2 : List UInt8 := dkwX1_city_2 ++ dktX1_city_3
def dkwX1_city_1 : List UInt8 := [181, 0, 51, 42, 2, 181, 0, 35, 187, 0, 58, 89, 42, 27, 183, 0, 60, 77, 42, 44, 182, 0, 63]
abbrev dktX1_city_1 : List UInt8 := dkwX1_city_1 ++ dktX1_city_2
def dkwX1_city_0 : List UInt8 := [27, 155, 0, 15, 27, 42, 180, 0, 51, 163, 0, 7, 4, 167, 0, 4, 3, 184, 0, 54, 42, 3]
abbrev dktX1_city_0 : List UInt8 := dkwX1_city_0 ++ dktX1_city_1
theorem dksX1_city_0 : cX1_city.data.toList.drop 0 = dktX1_city_0 := by decide +kernel
theorem dksX1_city_1 : cX1_city.data.toList.drop 22 = dktX1_city_1 := dk_seg dksX1_city_0 22 rfl rfl
theorem dksX1_city_2 : cX1_city.data.toList.drop 45 = dktX1_city_2 := dk_seg dksX1_city_1 23 rfl rfl
theorem dksX1_city_3 : cX1_city.data.toList.drop 69 = dktX1_city_3 := dk_seg dksX1_city_2 24 rfl rfl
theorem dksX1_city_4 : cX1_city.data.toList.drop 92 = dktX1_city_4 := dk_seg dksX1_city_3 23 rfl rfl
theorem dksX1_city_5 : cX1_city.data.toList.drop 115 = dktX1_city_5 := dk_seg dksX1_city_4 23 rfl rfl
theorem dksX1_city_6 : cX1_city.data.toList.drop 138 = dktX1_city_6 := dk_seg dksX1_city_5 23 rfl rfl
theorem dX1_city_0 : decode cX1_city 0 = .ok (.iload_n 1, 1) := dk_27 (dk_at dksX1_city_0 0 rfl rfl)
theorem dX1_city_1 : decode cX1_city 1 = .ok (.ifCond .lt 15, 3) := dk_155 0 15 (dk_at dksX1_city_0 1 rfl rfl)
theorem dX1_city_4 : decode cX1_city 4 = .ok (.iload_n 1, 1) := dk_27 (dk_at dksX1_city_0 4 rfl rfl)
theorem dX1_city_5 : decode cX1_city 5 = .ok (.aload_n 0, 1) := dk_42 (dk_at dksX1_city_0 5 rfl rfl)
theorem dX1_city_6 : decode cX1_city 6 = .ok (.getfield 51, 3) := dk_180 0 51 (dk_at dksX1_city_0 6 rfl rfl)
theorem dX1_city_9 : decode cX1_city 9 = .ok (.if_icmp .gt 7, 3) := dk_163 0 7 (dk_at dksX1_city_0 9 rfl rfl)
theorem dX1_city_12 : decode cX1_city 12 = .ok (.iconst 1, 1) := dk_4 (dk_at dksX1_city_0 12 rfl rfl)
theorem dX1_city_13 : decode cX1_city 13 = .ok (.goto 4, 3) := dk_167 0 4 (dk_at dksX1_city_0 13 rfl rfl)
theorem dX1_city_16 : decode cX1_city 16 = .ok (.iconst 0, 1) := dk_3 (dk_at dksX1_city_0 16 rfl rfl)
theorem dX1_city_17 : decode cX1_city 17 = .ok (.invokestatic 54, 3) := dk_184 0 54 (dk_at dksX1_city_0 17 rfl rfl)
theorem dX1_city_20 : decode cX1_city 20 = .ok (.aload_n 0, 1) := dk_42 (dk_at dksX1_city_0 20 rfl rfl)
theorem dX1_city_21 : decode cX1_city 21 = .ok (.iconst 0, 1) := dk_3 (dk_at dksX1_city_0 21 rfl rfl)
theorem dX1_city_22 : decode cX1_city 22 = .ok (.putfield 51, 3) := dk_181 0 51 (dk_at dksX1_city_1 0 rfl rfl)
theorem dX1_city_25 : decode cX1_city 25 = .ok (.aload_n 0, 1) := dk_42 (dk_at dksX1_city_1 3 rfl rfl)
theorem dX1_city_26 : decode cX1_city 26 = .ok (.iconst (-1), 1) := dk_2 (dk_at dksX1_city_1 4 rfl rfl)
theorem dX1_city_27 : decode cX1_city 27 = .ok (.putfield 35, 3) := dk_181 0 35 (dk_at dksX1_city_1 5 rfl rfl)
theorem dX1_city_30 : decode cX1_city 30 = .ok (.new 58, 3) := dk_187 0 58 (dk_at dksX1_city_1 8 rfl rfl)
theorem dX1_city_33 : decode cX1_city 33 = .ok (.dup, 1) := dk_89 (dk_at dksX1_city_1 11 rfl rfl)
theorem dX1_city_34 : decode cX1_city 34 = .ok (.aload_n 0, 1) := dk_42 (dk_at dksX1_city_1 12 rfl rfl)
theorem dX1_city_35 : decode cX1_city 35 = .ok (.iload_n 1, 1) := dk_27 (dk_at dksX1_city_1 13 rfl rfl)
theorem dX1_city_36 : decode cX1_city 36 = .ok (.invokespecial 60, 3) := dk_183 0 60 (dk_at dksX1_city_1 14 rfl rfl)
theorem dX1_city_39 : decode cX1_city 39 = .ok (.astore_n 2, 1) := dk_77 (dk_at dksX1_city_1 17 rfl rfl)
theorem dX1_city_40 : decode cX1_city 40 = .ok (.aload_n 0, 1) := dk_42 (dk_at dksX1_city_1 18 rfl rfl)
theorem dX1_city_41 : decode cX1_city 41 = .ok (.aload_n 2, 1) := dk_44 (dk_at dksX1_city_1 19 rfl rfl)
theorem dX1_city_42 : decode cX1_city 42 = .ok (.invokevirtual 63, 3) := dk_182 0 63 (dk_at dksX1_city_1 20 rfl rfl)
theorem dX1_city_45 : decode cX1_city 45 = .ok (.putfield 19, 3) := dk_181 0 19 (dk_at dksX1_city_2 0 rfl rfl)
theorem dX1_city_48 : decode cX1_city 48 = .ok (.goto 27, 3) := dk_167 0 27 (dk_at dksX1_city_2 3 rfl rfl)
theorem dX1_city_51 : decode cX1_city 51 = .ok (.astore_n 3, 1) := dk_78 (dk_at dksX1_city_2 6 rfl rfl)
theorem dX1_city_52 : decode cX1_city 52 = .ok (.aload_n 0, 1) := dk_42 (dk_at dksX1_city_2 7 rfl rfl)
theorem dX1_city_53 : decode cX1_city 53 = .ok (.aload_n 2, 1) := dk_44 (dk_at dksX1_city_2 8 rfl rfl)
theorem dX1_city_54 : decode cX1_city 54 = .ok (.getfield 69, 3) := dk_180 0 69 (dk_at dksX1_city_2 9 rfl rfl)
theorem dX1_city_57 : decode cX1_city 57 = .ok (.putfield 35, 3) := dk_181 0 35 (dk_at dksX1_city_2 12 rfl rfl)
theorem dX1_city_60 : decode cX1_city 60 = .ok (.aload_n 0, 1) := dk_42 (dk_at dksX1_city_2 15 rfl rfl)
theorem dX1_city_61 : decode cX1_city 61 = .ok (.getfield 38, 3) := dk_180 0 38 (dk_at dksX1_city_2 16 rfl rfl)
theorem dX1_city_64 : decode cX1_city 64 = .ok (.iconst 0, 1) := dk_3 (dk_at dksX1_city_2 19 rfl rfl)
theorem dX1_city_65 : decode cX1_city 65 = .ok (.dup2, 1) := dk_92 (dk_at dksX1_city_2 20 rfl rfl)
theorem dX1_city_66 : decode cX1_city 66 = .ok (.iaload, 1) := dk_46 (dk_at dksX1_city_2 21 rfl rfl)
theorem dX1_city_67 : decode cX1_city 67 = .ok (.iconst 1, 1) := dk_4 (dk_at dksX1_city_2 22 rfl rfl)
theorem dX1_city_68 : decode cX1_city 68 = .ok (.iadd, 1) := dk_96 (dk_at dksX1_city_2 23 rfl rfl)
theorem dX1_city_69 : decode cX1_city 69 = .ok (.iastore, 1) := dk_79 (dk_at dksX1_city_3 0 rfl rfl)
theorem dX1_city_70 : decode cX1_city 70 = .ok (.aload_n 3, 1) := dk_45 (dk_at dksX1_city_3 1 rfl rfl)
theorem dX1_city_71 : decode cX1_city 71 = .ok (.getfield 72, 3) := dk_180 0 72 (dk_at dksX1_city_3 2 rfl rfl)
theorem dX1_city_74 : decode cX1_city 74 = .ok (.ireturn, 1) := dk_172 (dk_at dksX1_city_3 5 rfl rfl)
theorem dX1_city_75 : decode cX1_city 75 = .ok (.aload_n 0, 1) := dk_42 (dk_at dksX1_city_3 6 rfl rfl)
theorem dX1_city_76 : decode cX1_city 76 = .ok (.aload_n 0, 1) := dk_42 (dk_at dksX1_city_3 7 rfl rfl)
theorem dX1_city_77 : decode cX1_city 77 = .ok (.getfield 19, 3) := dk_180 0 19 (dk_at dksX1_city_3 8 rfl rfl)
theorem dX1_city_80 : decode cX1_city 80 = .ok (.getfield 75, 3) := dk_180 0 75 (dk_at dksX1_city_3 11 rfl rfl)
theorem dX1_city_83 : decode cX1_city 83 = .ok (.invokeinterface 78 1, 5) := by decide +kernel
theorem dX1_city_88 : decode cX1_city 88 = .ok (.ifCond .eq 7, 3) := dk_153 0 7 (dk_at dksX1_city_3 19 rfl rfl)
theorem dX1_city_91 : decode cX1_city 91 = .ok (.iconst (-1), 1) := dk_2 (dk_at dksX1_city_3 22 rfl rfl)
theorem dX1_city_92 : decode cX1_city 92 = .ok (.goto 4, 3) := dk_167 0 4 (dk_at dksX1_city_4 0 rfl rfl)
theorem dX1_city_95 : decode cX1_city 95 = .ok (.iconst 0, 1) := dk_3 (dk_at dksX1_city_4 3 rfl rfl)
theorem dX1_city_96 : decode cX1_city 96 = .ok (.putfield 27, 3) := dk_181 0 27 (dk_at dksX1_city_4 4 rfl rfl)
theorem dX1_city_99 : decode cX1_city 99 = .ok (.aload_n 0, 1) := dk_42 (dk_at dksX1_city_4 7 rfl rfl)
theorem dX1_city_100 : decode cX1_city 100 = .ok (.iconst 0, 1) := dk_3 (dk_at dksX1_city_4 8 rfl rfl)
theorem dX1_city_101 : decode cX1_city 101 = .ok (.putfield 84, 3) := dk_181 0 84 (dk_at dksX1_city_4 9 rfl rfl)
theorem dX1_city_104 : decode cX1_city 104 = .ok (.aload_n 0, 1) := dk_42 (dk_at dksX1_city_4 12 rfl rfl)
theorem dX1_city_105 : decode cX1_city 105 = .ok (.iconst 0, 1) := dk_3 (dk_at dksX1_city_4 13 rfl rfl)
theorem dX1_city_106 : decode cX1_city 106 = .ok (.putfield 87, 3) := dk_181 0 87 (dk_at dksX1_city_4 14 rfl rfl)
theorem dX1_city_109 : decode cX1_city 109 = .ok (.aload_n 0, 1) := dk_42 (dk_at dksX1_city_4 17 rfl rfl)
theorem dX1_city_110 : decode cX1_city 110 = .ok (.iconst 0, 1) := dk_3 (dk_at dksX1_city_4 18 rfl rfl)
theorem dX1_city_111 : decode cX1_city 111 = .ok (.putfield 90, 3) := dk_181 0 90 (dk_at dksX1_city_4 19 rfl rfl)
theorem dX1_city_114 : decode cX1_city 114 = .ok (.aload_n 0, 1) := dk_42 (dk_at dksX1_city_4 22 rfl rfl)
theorem dX1_city_115 : decode cX1_city 115 = .ok (.new 41, 3) := dk_187 0 41 (dk_at dksX1_city_5 0 rfl rfl)
theorem dX1_city_118 : decode cX1_city 118 = .ok (.dup, 1) := dk_89 (dk_at dksX1_city_5 3 rfl rfl)
theorem dX1_city_119 : decode cX1_city 119 = .ok (.invokespecial 43, 3) := dk_183 0 43 (dk_at dksX1_city_5 4 rfl rfl)
theorem dX1_city_122 : decode cX1_city 122 = .ok (.putfield 44, 3) := dk_181 0 44 (dk_at dksX1_city_5 7 rfl rfl)
theorem dX1_city_125 : decode cX1_city 125 = .ok (.aload_n 0, 1) := dk_42 (dk_at dksX1_city_5 10 rfl rfl)
theorem dX1_city_126 : decode cX1_city 126 = .ok (.new 41, 3) := dk_187 0 41 (dk_at dksX1_city_5 11 rfl rfl)
theorem dX1_city_129 : decode cX1_city 129 = .ok (.dup, 1) := dk_89 (dk_at dksX1_city_5 14 rfl rfl)
theorem dX1_city_130 : decode cX1_city 130 = .ok (.invokespecial 43, 3) := dk_183 0 43 (dk_at dksX1_city_5 15 rfl rfl)
theorem dX1_city_133 : decode cX1_city 133 = .ok (.putfield 48, 3) := dk_181 0 48 (dk_at dksX1_city_5 18 rfl rfl)
theorem dX1_city_136 : decode cX1_city 136 = .ok (.aload_n 0, 1) := dk_42 (dk_at dksX1_city_5 21 rfl rfl)
theorem dX1_city_137 : decode cX1_city 137 = .ok (.aconst_null, 1) := dk_1 (dk_at dksX1_city_5 22 rfl rfl)
theorem dX1_city_138 : decode cX1_city 138 = .ok (.putfield 94, 3) := dk_181 0 94 (dk_at dksX1_city_6 0 rfl rfl)
theorem dX1_city_141 : decode cX1_city 141 = .ok (.aload_n 0, 1) := dk_42 (dk_at dksX1_city_6 3 rfl rfl)
theorem dX1_city_142 : decode cX1_city 142 = .ok (.aconst_null, 1) := dk_1 (dk_at dksX1_city_6 4 rfl rfl)
theorem dX1_city_143 : decode cX1_city 143 = .ok (.putfield 97, 3) := dk_181 0 97 (dk_at dksX1_city_6 5 rfl rfl)
theorem dX1_city_146 : decode cX1_city 146 = .ok (.iconst 0, 1) := dk_3 (dk_at dksX1_city_6 8 rfl rfl)
theorem dX1_city_147 : decode cX1_city 147 = .ok (.ireturn, 1) := dk_172 (dk_at dksX1_city_6 9 rfl rfl)
abbrev cX1_right : ByteArray := prog_1_method_3_code
def yX1_right : MethodName := ⟨RX1, "right", "(Z)V"⟩
def dkwX1_right_0 : List UInt8 := [26, 154, 0, 11, 187, 0, 7, 89, 183, 0, 9, 191, 177]
abbrev dktX1_right_0 : List UInt8 := dkwX1_right_0 ++ []
theorem dksX1_right_0 : cX1_right.data.toList.drop 0 = dktX1_right_0 := by decide +kernel
theorem dX1_right_0 : decode cX1_right 0 = .ok (.iload_n 0, 1) := dk_26 (dk_at dksX1_right_0 0 rfl rfl)
theorem dX1_right_1 : decode cX1_right 1 = .ok (.ifCond .ne 11, 3) := dk_154 0 11 (dk_at dksX1_right_0 1 rfl rfl)
theorem dX1_right_4 : decode cX1_right 4 = .ok (.new 7, 3) := dk_187 0 7 (dk_at dksX1_right_0 4 rfl rfl)
theorem dX1_right_7 : decode cX1_right 7 = .ok (.dup, 1) := dk_89 (dk_at dksX1_right_0 7 rfl rfl)
theorem dX1_right_8 : decode cX1_right 8 = .ok (.invokespecial 9, 3) := dk_183 0 9 (dk_at dksX1_right_0 8 rfl rfl)
theorem dX1_right_11 : decode cX1_right 11 = .ok (.athrow, 1) := dk_191 (dk_at dksX1_right_0 11 rfl rfl)
theorem dX1_right_12 : decode cX1_right 12 = .ok (.return_, 1) := dk_177 (dk_at dksX1_right_0 12 rfl rfl)
abbrev cX1_count : ByteArray := prog_1_method_11_code
def yX1_count : MethodName := ⟨RX1, "count", "(I)I"⟩
def dkwX1_count_8 : List UInt8 := [180, 0, 38, 27, 16, 14, 100, 46, 172]
abbrev dktX1_count_8 : List UInt8 := dkwX1_count_8 ++ []
def dkwX1_count_7 : List UInt8 := [185, 0, 118, 1, 0, 172, 42, 180, 0, 51, 172, 27, 16, 14, 16, 16, 184, 0, 134, 184, 0, 138, 42]
abbrev dktX1_count_7 : List UInt8 := dkwX1_count_7 ++ dktX1_count_8
def dkwX1_count_6 : List UInt8 := [182, 0, 128, 182, 0, 131, 172, 42, 180, 0, 44, 185, 0, 118, 1, 0, 172, 42, 180, 0, 48]
abbrev dktX1_count_6 : List UInt8 := dkwX1_count_6 ++ dktX1_count_7
def dkwX1_count_5 : List UInt8 := [180, 0, 84, 172, 42, 180, 0, 90, 153, 0, 7, 4, 167, 0, 4, 3, 172, 42, 180, 0, 87, 172, 42]
abbrev dktX1_count_5 : List UInt8 := dkwX1_count_5 ++ dktX1_count_6
def dkwX1_count_4 : List UInt8 := [180, 0, 75, 185, 0, 118, 1, 0, 172, 42, 180, 0, 27, 172, 42, 180, 0, 19, 180, 0, 125, 172, 42]
abbrev dktX1_count_4 : List UInt8 := dkwX1_count_4 ++ dktX1_count_5
def dkwX1_count_3 : List UInt8 := [185, 0, 118, 1, 0, 172, 42, 180, 0, 19, 180, 0, 122, 185, 0, 118, 1, 0, 172, 42, 180, 0, 19]
abbrev dktX1_count_3 : List UInt8 := dkwX1_count_3 ++ dktX1_count_4
def dkwX1_count_2 : List UInt8 := [42, 180, 0, 19, 180, 0, 109, 172, 42, 180, 0, 19, 180, 0, 112, 172, 42, 180, 0, 19, 180, 0, 115]
abbrev dktX1_count_2 : List UInt8 := dkwX1_count_2 ++ dktX1_count_3
def dkwX1_count_1 : List UInt8 := [170, 0, 0, 0, 0, 0, 195, 0, 0, 0, 0, 0, 0, 0, 13, 0, 0, 0, 71, 0, 0, 0, 79, 0, 0, 0, 87, 0, 0, 0, 100, 0, 0, 0, 113, 0, 0, 0, 126, 0, 0, 0, 131, 0, 0, 0, 139, 0, 0, 0, 144, 0, 0, 0, 157, 0, 0, 0, 162, 0, 0, 0, 170, 0, 0, 0, 180, 0, 0, 0, 190]
abbrev dktX1_count_1 : List UInt8 := dkwX1_count_1 ++ dktX1_count_2
def dkwX1_count_0 : List UInt8 := [27]
abbrev dktX1_count_0 : List UInt8 := dkwX1_count_0 ++ dktX1_count_1
theorem dksX1_count_0 : cX1_count.data.toList.drop 0 = dktX1_count_0 := by decide +kernel
theorem dksX1_count_1 : cX1_count.data.toList.drop 1 = dktX1_count_1 := dk_seg dksX1_count_0 1 rfl rfl
theorem dksX1_count_2 : cX1_count.data.toList.drop 72 = dktX1_count_2 := dk_seg dksX1_count_1 71 rfl rfl
theorem dksX1_count_3 : cX1_count.data.toList.drop 95 = dktX1_count_3 := dk_seg dksX1_count_2 23 rfl rfl
theorem dksX1_count_4 : cX1_count.data.toList.drop 118 = dktX1_count_4 := dk_seg dksX1_count_3 23 rfl rfl
theorem dksX1_count_5 : cX1_count.data.toList.drop 141 = dktX1_count_5 := dk_seg dksX1_count_4 23 rfl rfl
theorem dksX1_count_6 : cX1_count.data.toList.drop 164 = dktX1_count_6 := dk_seg dksX1_count_5 23 rfl rfl
theorem dksX1_count_7 : cX1_count.data.toList.drop 185 = dktX1_count_7 := dk_seg dksX1_count_6 21 rfl rfl
theorem dksX1_count_8 : cX1_count.data.toList.drop 208 = dktX1_count_8 := dk_seg dksX1_count_7 23 rfl rfl
theorem dX1_count_0 : decode cX1_count 0 = .ok (.iload_n 1, 1) := dk_27 (dk_at dksX1_count_0 0 rfl rfl)
theorem dX1_count_1 : decode cX1_count 1 = .ok (.tableswitch 195 0 13 #[71, 79, 87, 100, 113, 126, 131, 139, 144, 157, 162, 170, 180, 190], 71) := by decide +kernel
theorem dX1_count_72 : decode cX1_count 72 = .ok (.aload_n 0, 1) := dk_42 (dk_at dksX1_count_2 0 rfl rfl)
theorem dX1_count_73 : decode cX1_count 73 = .ok (.getfield 19, 3) := dk_180 0 19 (dk_at dksX1_count_2 1 rfl rfl)
theorem dX1_count_76 : decode cX1_count 76 = .ok (.getfield 109, 3) := dk_180 0 109 (dk_at dksX1_count_2 4 rfl rfl)
theorem dX1_count_79 : decode cX1_count 79 = .ok (.ireturn, 1) := dk_172 (dk_at dksX1_count_2 7 rfl rfl)
theorem dX1_count_80 : decode cX1_count 80 = .ok (.aload_n 0, 1) := dk_42 (dk_at dksX1_count_2 8 rfl rfl)
theorem dX1_count_81 : decode cX1_count 81 = .ok (.getfield 19, 3) := dk_180 0 19 (dk_at dksX1_count_2 9 rfl rfl)
theorem dX1_count_84 : decode cX1_count 84 = .ok (.getfield 112, 3) := dk_180 0 112 (dk_at dksX1_count_2 12 rfl rfl)
theorem dX1_count_87 : decode cX1_count 87 = .ok (.ireturn, 1) := dk_172 (dk_at dksX1_count_2 15 rfl rfl)
theorem dX1_count_88 : decode cX1_count 88 = .ok (.aload_n 0, 1) := dk_42 (dk_at dksX1_count_2 16 rfl rfl)
theorem dX1_count_89 : decode cX1_count 89 = .ok (.getfield 19, 3) := dk_180 0 19 (dk_at dksX1_count_2 17 rfl rfl)
theorem dX1_count_92 : decode cX1_count 92 = .ok (.getfield 115, 3) := dk_180 0 115 (dk_at dksX1_count_2 20 rfl rfl)
theorem dX1_count_95 : decode cX1_count 95 = .ok (.invokeinterface 118 1, 5) := by decide +kernel
theorem dX1_count_100 : decode cX1_count 100 = .ok (.ireturn, 1) := dk_172 (dk_at dksX1_count_3 5 rfl rfl)
theorem dX1_count_101 : decode cX1_count 101 = .ok (.aload_n 0, 1) := dk_42 (dk_at dksX1_count_3 6 rfl rfl)
theorem dX1_count_102 : decode cX1_count 102 = .ok (.getfield 19, 3) := dk_180 0 19 (dk_at dksX1_count_3 7 rfl rfl)
theorem dX1_count_105 : decode cX1_count 105 = .ok (.getfield 122, 3) := dk_180 0 122 (dk_at dksX1_count_3 10 rfl rfl)
theorem dX1_count_108 : decode cX1_count 108 = .ok (.invokeinterface 118 1, 5) := by decide +kernel
theorem dX1_count_113 : decode cX1_count 113 = .ok (.ireturn, 1) := dk_172 (dk_at dksX1_count_3 18 rfl rfl)
theorem dX1_count_114 : decode cX1_count 114 = .ok (.aload_n 0, 1) := dk_42 (dk_at dksX1_count_3 19 rfl rfl)
theorem dX1_count_115 : decode cX1_count 115 = .ok (.getfield 19, 3) := dk_180 0 19 (dk_at dksX1_count_3 20 rfl rfl)
theorem dX1_count_118 : decode cX1_count 118 = .ok (.getfield 75, 3) := dk_180 0 75 (dk_at dksX1_count_4 0 rfl rfl)
theorem dX1_count_121 : decode cX1_count 121 = .ok (.invokeinterface 118 1, 5) := by decide +kernel
theorem dX1_count_126 : decode cX1_count 126 = .ok (.ireturn, 1) := dk_172 (dk_at dksX1_count_4 8 rfl rfl)
theorem dX1_count_127 : decode cX1_count 127 = .ok (.aload_n 0, 1) := dk_42 (dk_at dksX1_count_4 9 rfl rfl)
theorem dX1_count_128 : decode cX1_count 128 = .ok (.getfield 27, 3) := dk_180 0 27 (dk_at dksX1_count_4 10 rfl rfl)
theorem dX1_count_131 : decode cX1_count 131 = .ok (.ireturn, 1) := dk_172 (dk_at dksX1_count_4 13 rfl rfl)
theorem dX1_count_132 : decode cX1_count 132 = .ok (.aload_n 0, 1) := dk_42 (dk_at dksX1_count_4 14 rfl rfl)
theorem dX1_count_133 : decode cX1_count 133 = .ok (.getfield 19, 3) := dk_180 0 19 (dk_at dksX1_count_4 15 rfl rfl)
theorem dX1_count_136 : decode cX1_count 136 = .ok (.getfield 125, 3) := dk_180 0 125 (dk_at dksX1_count_4 18 rfl rfl)
theorem dX1_count_139 : decode cX1_count 139 = .ok (.ireturn, 1) := dk_172 (dk_at dksX1_count_4 21 rfl rfl)
theorem dX1_count_140 : decode cX1_count 140 = .ok (.aload_n 0, 1) := dk_42 (dk_at dksX1_count_4 22 rfl rfl)
theorem dX1_count_141 : decode cX1_count 141 = .ok (.getfield 84, 3) := dk_180 0 84 (dk_at dksX1_count_5 0 rfl rfl)
theorem dX1_count_144 : decode cX1_count 144 = .ok (.ireturn, 1) := dk_172 (dk_at dksX1_count_5 3 rfl rfl)
theorem dX1_count_145 : decode cX1_count 145 = .ok (.aload_n 0, 1) := dk_42 (dk_at dksX1_count_5 4 rfl rfl)
theorem dX1_count_146 : decode cX1_count 146 = .ok (.getfield 90, 3) := dk_180 0 90 (dk_at dksX1_count_5 5 rfl rfl)
theorem dX1_count_149 : decode cX1_count 149 = .ok (.ifCond .eq 7, 3) := dk_153 0 7 (dk_at dksX1_count_5 8 rfl rfl)
theorem dX1_count_152 : decode cX1_count 152 = .ok (.iconst 1, 1) := dk_4 (dk_at dksX1_count_5 11 rfl rfl)
theorem dX1_count_153 : decode cX1_count 153 = .ok (.goto 4, 3) := dk_167 0 4 (dk_at dksX1_count_5 12 rfl rfl)
theorem dX1_count_156 : decode cX1_count 156 = .ok (.iconst 0, 1) := dk_3 (dk_at dksX1_count_5 15 rfl rfl)
theorem dX1_count_157 : decode cX1_count 157 = .ok (.ireturn, 1) := dk_172 (dk_at dksX1_count_5 16 rfl rfl)
theorem dX1_count_158 : decode cX1_count 158 = .ok (.aload_n 0, 1) := dk_42 (dk_at dksX1_count_5 17 rfl rfl)
theorem dX1_count_159 : decode cX1_count 159 = .ok (.getfield 87, 3) := dk_180 0 87 (dk_at dksX1_count_5 18 rfl rfl)
theorem dX1_count_162 : decode cX1_count 162 = .ok (.ireturn, 1) := dk_172 (dk_at dksX1_count_5 21 rfl rfl)
theorem dX1_count_163 : decode cX1_count 163 = .ok (.aload_n 0, 1) := dk_42 (dk_at dksX1_count_5 22 rfl rfl)
theorem dX1_count_164 : decode cX1_count 164 = .ok (.invokevirtual 128, 3) := dk_182 0 128 (dk_at dksX1_count_6 0 rfl rfl)
theorem dX1_count_167 : decode cX1_count 167 = .ok (.invokevirtual 131, 3) := dk_182 0 131 (dk_at dksX1_count_6 3 rfl rfl)
theorem dX1_count_170 : decode cX1_count 170 = .ok (.ireturn, 1) := dk_172 (dk_at dksX1_count_6 6 rfl rfl)
theorem dX1_count_171 : decode cX1_count 171 = .ok (.aload_n 0, 1) := dk_42 (dk_at dksX1_count_6 7 rfl rfl)
theorem dX1_count_172 : decode cX1_count 172 = .ok (.getfield 44, 3) := dk_180 0 44 (dk_at dksX1_count_6 8 rfl rfl)
theorem dX1_count_175 : decode cX1_count 175 = .ok (.invokeinterface 118 1, 5) := by decide +kernel
theorem dX1_count_180 : decode cX1_count 180 = .ok (.ireturn, 1) := dk_172 (dk_at dksX1_count_6 16 rfl rfl)
theorem dX1_count_181 : decode cX1_count 181 = .ok (.aload_n 0, 1) := dk_42 (dk_at dksX1_count_6 17 rfl rfl)
theorem dX1_count_182 : decode cX1_count 182 = .ok (.getfield 48, 3) := dk_180 0 48 (dk_at dksX1_count_6 18 rfl rfl)
theorem dX1_count_185 : decode cX1_count 185 = .ok (.invokeinterface 118 1, 5) := by decide +kernel
theorem dX1_count_190 : decode cX1_count 190 = .ok (.ireturn, 1) := dk_172 (dk_at dksX1_count_7 5 rfl rfl)
theorem dX1_count_191 : decode cX1_count 191 = .ok (.aload_n 0, 1) := dk_42 (dk_at dksX1_count_7 6 rfl rfl)
theorem dX1_count_192 : decode cX1_count 192 = .ok (.getfield 51, 3) := dk_180 0 51 (dk_at dksX1_count_7 7 rfl rfl)
theorem dX1_count_195 : decode cX1_count 195 = .ok (.ireturn, 1) := dk_172 (dk_at dksX1_count_7 10 rfl rfl)
theorem dX1_count_196 : decode cX1_count 196 = .ok (.iload_n 1, 1) := dk_27 (dk_at dksX1_count_7 11 rfl rfl)
theorem dX1_count_197 : decode cX1_count 197 = .ok (.bipush 14, 2) := dk_16 14 (dk_at dksX1_count_7 12 rfl rfl)
theorem dX1_count_199 : decode cX1_count 199 = .ok (.bipush 16, 2) := dk_16 16 (dk_at dksX1_count_7 14 rfl rfl)
theorem dX1_count_201 : decode cX1_count 201 = .ok (.invokestatic 134, 3) := dk_184 0 134 (dk_at dksX1_count_7 16 rfl rfl)
theorem dX1_count_204 : decode cX1_count 204 = .ok (.invokestatic 138, 3) := dk_184 0 138 (dk_at dksX1_count_7 19 rfl rfl)
theorem dX1_count_207 : decode cX1_count 207 = .ok (.aload_n 0, 1) := dk_42 (dk_at dksX1_count_7 22 rfl rfl)
theorem dX1_count_208 : decode cX1_count 208 = .ok (.getfield 38, 3) := dk_180 0 38 (dk_at dksX1_count_8 0 rfl rfl)
theorem dX1_count_211 : decode cX1_count 211 = .ok (.iload_n 1, 1) := dk_27 (dk_at dksX1_count_8 3 rfl rfl)
theorem dX1_count_212 : decode cX1_count 212 = .ok (.bipush 14, 2) := dk_16 14 (dk_at dksX1_count_8 4 rfl rfl)
theorem dX1_count_214 : decode cX1_count 214 = .ok (.isub, 1) := dk_100 (dk_at dksX1_count_8 6 rfl rfl)
theorem dX1_count_215 : decode cX1_count 215 = .ok (.iaload, 1) := dk_46 (dk_at dksX1_count_8 7 rfl rfl)
theorem dX1_count_216 : decode cX1_count 216 = .ok (.ireturn, 1) := dk_172 (dk_at dksX1_count_8 8 rfl rfl)
abbrev cX1_found : ByteArray := prog_1_method_2_code
def yX1_found : MethodName := ⟨RX1, "found", "(Z)V"⟩
def dkwX1_found_0 : List UInt8 := [26, 154, 0, 11, 187, 0, 1, 89, 183, 0, 3, 191, 177]
abbrev dktX1_found_0 : List UInt8 := dkwX1_found_0 ++ []
theorem dksX1_found_0 : cX1_found.data.toList.drop 0 = dktX1_found_0 := by decide +kernel
theorem dX1_found_0 : decode cX1_found 0 = .ok (.iload_n 0, 1) := dk_26 (dk_at dksX1_found_0 0 rfl rfl)
theorem dX1_found_1 : decode cX1_found 1 = .ok (.ifCond .ne 11, 3) := dk_154 0 11 (dk_at dksX1_found_0 1 rfl rfl)
theorem dX1_found_4 : decode cX1_found 4 = .ok (.new 1, 3) := dk_187 0 1 (dk_at dksX1_found_0 4 rfl rfl)
theorem dX1_found_7 : decode cX1_found 7 = .ok (.dup, 1) := dk_89 (dk_at dksX1_found_0 7 rfl rfl)
theorem dX1_found_8 : decode cX1_found 8 = .ok (.invokespecial 3, 3) := dk_183 0 3 (dk_at dksX1_found_0 8 rfl rfl)
theorem dX1_found_11 : decode cX1_found 11 = .ok (.athrow, 1) := dk_191 (dk_at dksX1_found_0 11 rfl rfl)
theorem dX1_found_12 : decode cX1_found 12 = .ok (.return_, 1) := dk_177 (dk_at dksX1_found_0 12 rfl rfl)
abbrev cX1_roof : ByteArray := prog_1_method_17_code
def yX1_roof : MethodName := ⟨RX1, "roof", "(II)I"⟩
def dkwX1_roof_8 : List UInt8 := [132, 4, 1, 132, 5, 1, 167, 255, 223, 21, 4, 172]
abbrev dktX1_roof_8 : List UInt8 := dkwX1_roof_8 ++ []
def dkwX1_roof_7 : List UInt8 := [180, 0, 19, 180, 0, 109, 162, 0, 27, 42, 180, 0, 19, 180, 0, 162, 27, 50, 21, 5, 46, 158, 0, 6]
abbrev dktX1_roof_7 : List UInt8 := dkwX1_roof_7 ++ dktX1_roof_8
def dkwX1_roof_6 : List UInt8 := [28, 7, 160, 0, 7, 4, 167, 0, 4, 3, 184, 0, 138, 3, 54, 4, 3, 54, 5, 21, 5, 42]
abbrev dktX1_roof_6 : List UInt8 := dkwX1_roof_6 ++ dktX1_roof_7
def dkwX1_roof_5 : List UInt8 := [192, 0, 151, 4, 46, 27, 160, 0, 10, 29, 4, 21, 4, 120, 128, 62, 132, 4, 1, 167, 255, 206, 29, 172]
abbrev dktX1_roof_5 : List UInt8 := dkwX1_roof_5 ++ dktX1_roof_6
def dkwX1_roof_4 : List UInt8 := [185, 0, 118, 1, 0, 162, 0, 39, 42, 180, 0, 19, 180, 0, 122, 21, 4, 185, 0, 145, 2, 0]
abbrev dktX1_roof_4 : List UInt8 := dkwX1_roof_4 ++ dktX1_roof_5
def dkwX1_roof_3 : List UInt8 := [182, 0, 128, 180, 0, 159, 27, 46, 172, 3, 62, 3, 54, 4, 21, 4, 42, 180, 0, 19, 180, 0, 122]
abbrev dktX1_roof_3 : List UInt8 := dkwX1_roof_3 ++ dktX1_roof_4
def dkwX1_roof_2 : List UInt8 := [42, 180, 0, 19, 180, 0, 156, 27, 46, 172, 5, 42, 180, 0, 19, 180, 0, 156, 27, 46, 104, 172, 42]
abbrev dktX1_roof_2 : List UInt8 := dkwX1_roof_2 ++ dktX1_roof_3
def dkwX1_roof_1 : List UInt8 := [170, 0, 0, 0, 0, 122, 0, 0, 0, 0, 0, 0, 0, 3, 0, 0, 0, 30, 0, 0, 0, 40, 0, 0, 0, 52, 0, 0, 0, 62]
abbrev dktX1_roof_1 : List UInt8 := dkwX1_roof_1 ++ dktX1_roof_2
def dkwX1_roof_0 : List UInt8 := [42, 27, 182, 0, 152, 28]
abbrev dktX1_roof_0 : List UInt8 := dkwX1_roof_0 ++ dktX1_roof_1
theorem dksX1_roof_0 : cX1_roof.data.toList.drop 0 = dktX1_roof_0 := by decide +kernel
theorem dksX1_roof_1 : cX1_roof.data.toList.drop 6 = dktX1_roof_1 := dk_seg dksX1_roof_0 6 rfl rfl
theorem dksX1_roof_2 : cX1_roof.data.toList.drop 36 = dktX1_roof_2 := dk_seg dksX1_roof_1 30 rfl rfl
theorem dksX1_roof_3 : cX1_roof.data.toList.drop 59 = dktX1_roof_3 := dk_seg dksX1_roof_2 23 rfl rfl
theorem dksX1_roof_4 : cX1_roof.data.toList.drop 82 = dktX1_roof_4 := dk_seg dksX1_roof_3 23 rfl rfl
theorem dksX1_roof_5 : cX1_roof.data.toList.drop 104 = dktX1_roof_5 := dk_seg dksX1_roof_4 22 rfl rfl
theorem dksX1_roof_6 : cX1_roof.data.toList.drop 128 = dktX1_roof_6 := dk_seg dksX1_roof_5 24 rfl rfl
theorem dksX1_roof_7 : cX1_roof.data.toList.drop 150 = dktX1_roof_7 := dk_seg dksX1_roof_6 22 rfl rfl
theorem dksX1_roof_8 : cX1_roof.data.toList.drop 174 = dktX1_roof_8 := dk_seg dksX1_roof_7 24 rfl rfl
theorem dX1_roof_0 : decode cX1_roof 0 = .ok (.aload_n 0, 1) := dk_42 (dk_at dksX1_roof_0 0 rfl rfl)
theorem dX1_roof_1 : decode cX1_roof 1 = .ok (.iload_n 1, 1) := dk_27 (dk_at dksX1_roof_0 1 rfl rfl)
theorem dX1_roof_2 : decode cX1_roof 2 = .ok (.invokevirtual 152, 3) := dk_182 0 152 (dk_at dksX1_roof_0 2 rfl rfl)
theorem dX1_roof_5 : decode cX1_roof 5 = .ok (.iload_n 2, 1) := dk_28 (dk_at dksX1_roof_0 5 rfl rfl)
theorem dX1_roof_6 : decode cX1_roof 6 = .ok (.tableswitch 122 0 3 #[30, 40, 52, 62], 30) := by decide +kernel
theorem dX1_roof_36 : decode cX1_roof 36 = .ok (.aload_n 0, 1) := dk_42 (dk_at dksX1_roof_2 0 rfl rfl)
theorem dX1_roof_37 : decode cX1_roof 37 = .ok (.getfield 19, 3) := dk_180 0 19 (dk_at dksX1_roof_2 1 rfl rfl)
theorem dX1_roof_40 : decode cX1_roof 40 = .ok (.getfield 156, 3) := dk_180 0 156 (dk_at dksX1_roof_2 4 rfl rfl)
theorem dX1_roof_43 : decode cX1_roof 43 = .ok (.iload_n 1, 1) := dk_27 (dk_at dksX1_roof_2 7 rfl rfl)
theorem dX1_roof_44 : decode cX1_roof 44 = .ok (.iaload, 1) := dk_46 (dk_at dksX1_roof_2 8 rfl rfl)
theorem dX1_roof_45 : decode cX1_roof 45 = .ok (.ireturn, 1) := dk_172 (dk_at dksX1_roof_2 9 rfl rfl)
theorem dX1_roof_46 : decode cX1_roof 46 = .ok (.iconst 2, 1) := dk_5 (dk_at dksX1_roof_2 10 rfl rfl)
theorem dX1_roof_47 : decode cX1_roof 47 = .ok (.aload_n 0, 1) := dk_42 (dk_at dksX1_roof_2 11 rfl rfl)
theorem dX1_roof_48 : decode cX1_roof 48 = .ok (.getfield 19, 3) := dk_180 0 19 (dk_at dksX1_roof_2 12 rfl rfl)
theorem dX1_roof_51 : decode cX1_roof 51 = .ok (.getfield 156, 3) := dk_180 0 156 (dk_at dksX1_roof_2 15 rfl rfl)
theorem dX1_roof_54 : decode cX1_roof 54 = .ok (.iload_n 1, 1) := dk_27 (dk_at dksX1_roof_2 18 rfl rfl)
theorem dX1_roof_55 : decode cX1_roof 55 = .ok (.iaload, 1) := dk_46 (dk_at dksX1_roof_2 19 rfl rfl)
theorem dX1_roof_56 : decode cX1_roof 56 = .ok (.imul, 1) := dk_104 (dk_at dksX1_roof_2 20 rfl rfl)
theorem dX1_roof_57 : decode cX1_roof 57 = .ok (.ireturn, 1) := dk_172 (dk_at dksX1_roof_2 21 rfl rfl)
theorem dX1_roof_58 : decode cX1_roof 58 = .ok (.aload_n 0, 1) := dk_42 (dk_at dksX1_roof_2 22 rfl rfl)
theorem dX1_roof_59 : decode cX1_roof 59 = .ok (.invokevirtual 128, 3) := dk_182 0 128 (dk_at dksX1_roof_3 0 rfl rfl)
theorem dX1_roof_62 : decode cX1_roof 62 = .ok (.getfield 159, 3) := dk_180 0 159 (dk_at dksX1_roof_3 3 rfl rfl)
theorem dX1_roof_65 : decode cX1_roof 65 = .ok (.iload_n 1, 1) := dk_27 (dk_at dksX1_roof_3 6 rfl rfl)
theorem dX1_roof_66 : decode cX1_roof 66 = .ok (.iaload, 1) := dk_46 (dk_at dksX1_roof_3 7 rfl rfl)
theorem dX1_roof_67 : decode cX1_roof 67 = .ok (.ireturn, 1) := dk_172 (dk_at dksX1_roof_3 8 rfl rfl)
theorem dX1_roof_68 : decode cX1_roof 68 = .ok (.iconst 0, 1) := dk_3 (dk_at dksX1_roof_3 9 rfl rfl)
theorem dX1_roof_69 : decode cX1_roof 69 = .ok (.istore_n 3, 1) := dk_62 (dk_at dksX1_roof_3 10 rfl rfl)
theorem dX1_roof_70 : decode cX1_roof 70 = .ok (.iconst 0, 1) := dk_3 (dk_at dksX1_roof_3 11 rfl rfl)
theorem dX1_roof_71 : decode cX1_roof 71 = .ok (.istore 4, 2) := dk_54 4 (dk_at dksX1_roof_3 12 rfl rfl)
theorem dX1_roof_73 : decode cX1_roof 73 = .ok (.iload 4, 2) := dk_21 4 (dk_at dksX1_roof_3 14 rfl rfl)
theorem dX1_roof_75 : decode cX1_roof 75 = .ok (.aload_n 0, 1) := dk_42 (dk_at dksX1_roof_3 16 rfl rfl)
theorem dX1_roof_76 : decode cX1_roof 76 = .ok (.getfield 19, 3) := dk_180 0 19 (dk_at dksX1_roof_3 17 rfl rfl)
theorem dX1_roof_79 : decode cX1_roof 79 = .ok (.getfield 122, 3) := dk_180 0 122 (dk_at dksX1_roof_3 20 rfl rfl)
theorem dX1_roof_82 : decode cX1_roof 82 = .ok (.invokeinterface 118 1, 5) := by decide +kernel
theorem dX1_roof_87 : decode cX1_roof 87 = .ok (.if_icmp .ge 39, 3) := dk_162 0 39 (dk_at dksX1_roof_4 5 rfl rfl)
theorem dX1_roof_90 : decode cX1_roof 90 = .ok (.aload_n 0, 1) := dk_42 (dk_at dksX1_roof_4 8 rfl rfl)
theorem dX1_roof_91 : decode cX1_roof 91 = .ok (.getfield 19, 3) := dk_180 0 19 (dk_at dksX1_roof_4 9 rfl rfl)
theorem dX1_roof_94 : decode cX1_roof 94 = .ok (.getfield 122, 3) := dk_180 0 122 (dk_at dksX1_roof_4 12 rfl rfl)
theorem dX1_roof_97 : decode cX1_roof 97 = .ok (.iload 4, 2) := dk_21 4 (dk_at dksX1_roof_4 15 rfl rfl)
theorem dX1_roof_99 : decode cX1_roof 99 = .ok (.invokeinterface 145 2, 5) := by decide +kernel
theorem dX1_roof_104 : decode cX1_roof 104 = .ok (.checkcast 151, 3) := dk_192 0 151 (dk_at dksX1_roof_5 0 rfl rfl)
theorem dX1_roof_107 : decode cX1_roof 107 = .ok (.iconst 1, 1) := dk_4 (dk_at dksX1_roof_5 3 rfl rfl)
theorem dX1_roof_108 : decode cX1_roof 108 = .ok (.iaload, 1) := dk_46 (dk_at dksX1_roof_5 4 rfl rfl)
theorem dX1_roof_109 : decode cX1_roof 109 = .ok (.iload_n 1, 1) := dk_27 (dk_at dksX1_roof_5 5 rfl rfl)
theorem dX1_roof_110 : decode cX1_roof 110 = .ok (.if_icmp .ne 10, 3) := dk_160 0 10 (dk_at dksX1_roof_5 6 rfl rfl)
theorem dX1_roof_113 : decode cX1_roof 113 = .ok (.iload_n 3, 1) := dk_29 (dk_at dksX1_roof_5 9 rfl rfl)
theorem dX1_roof_114 : decode cX1_roof 114 = .ok (.iconst 1, 1) := dk_4 (dk_at dksX1_roof_5 10 rfl rfl)
theorem dX1_roof_115 : decode cX1_roof 115 = .ok (.iload 4, 2) := dk_21 4 (dk_at dksX1_roof_5 11 rfl rfl)
theorem dX1_roof_117 : decode cX1_roof 117 = .ok (.ishl, 1) := dk_120 (dk_at dksX1_roof_5 13 rfl rfl)
theorem dX1_roof_118 : decode cX1_roof 118 = .ok (.ior, 1) := dk_128 (dk_at dksX1_roof_5 14 rfl rfl)
theorem dX1_roof_119 : decode cX1_roof 119 = .ok (.istore_n 3, 1) := dk_62 (dk_at dksX1_roof_5 15 rfl rfl)
theorem dX1_roof_120 : decode cX1_roof 120 = .ok (.iinc 4 1, 3) := dk_132 4 1 (dk_at dksX1_roof_5 16 rfl rfl)
theorem dX1_roof_123 : decode cX1_roof 123 = .ok (.goto (-50), 3) := dk_167 255 206 (dk_at dksX1_roof_5 19 rfl rfl)
theorem dX1_roof_126 : decode cX1_roof 126 = .ok (.iload_n 3, 1) := dk_29 (dk_at dksX1_roof_5 22 rfl rfl)
theorem dX1_roof_127 : decode cX1_roof 127 = .ok (.ireturn, 1) := dk_172 (dk_at dksX1_roof_5 23 rfl rfl)
theorem dX1_roof_128 : decode cX1_roof 128 = .ok (.iload_n 2, 1) := dk_28 (dk_at dksX1_roof_6 0 rfl rfl)
theorem dX1_roof_129 : decode cX1_roof 129 = .ok (.iconst 4, 1) := dk_7 (dk_at dksX1_roof_6 1 rfl rfl)
theorem dX1_roof_130 : decode cX1_roof 130 = .ok (.if_icmp .ne 7, 3) := dk_160 0 7 (dk_at dksX1_roof_6 2 rfl rfl)
theorem dX1_roof_133 : decode cX1_roof 133 = .ok (.iconst 1, 1) := dk_4 (dk_at dksX1_roof_6 5 rfl rfl)
theorem dX1_roof_134 : decode cX1_roof 134 = .ok (.goto 4, 3) := dk_167 0 4 (dk_at dksX1_roof_6 6 rfl rfl)
theorem dX1_roof_137 : decode cX1_roof 137 = .ok (.iconst 0, 1) := dk_3 (dk_at dksX1_roof_6 9 rfl rfl)
theorem dX1_roof_138 : decode cX1_roof 138 = .ok (.invokestatic 138, 3) := dk_184 0 138 (dk_at dksX1_roof_6 10 rfl rfl)
theorem dX1_roof_141 : decode cX1_roof 141 = .ok (.iconst 0, 1) := dk_3 (dk_at dksX1_roof_6 13 rfl rfl)
theorem dX1_roof_142 : decode cX1_roof 142 = .ok (.istore 4, 2) := dk_54 4 (dk_at dksX1_roof_6 14 rfl rfl)
theorem dX1_roof_144 : decode cX1_roof 144 = .ok (.iconst 0, 1) := dk_3 (dk_at dksX1_roof_6 16 rfl rfl)
theorem dX1_roof_145 : decode cX1_roof 145 = .ok (.istore 5, 2) := dk_54 5 (dk_at dksX1_roof_6 17 rfl rfl)
theorem dX1_roof_147 : decode cX1_roof 147 = .ok (.iload 5, 2) := dk_21 5 (dk_at dksX1_roof_6 19 rfl rfl)
theorem dX1_roof_149 : decode cX1_roof 149 = .ok (.aload_n 0, 1) := dk_42 (dk_at dksX1_roof_6 21 rfl rfl)
theorem dX1_roof_150 : decode cX1_roof 150 = .ok (.getfield 19, 3) := dk_180 0 19 (dk_at dksX1_roof_7 0 rfl rfl)
theorem dX1_roof_153 : decode cX1_roof 153 = .ok (.getfield 109, 3) := dk_180 0 109 (dk_at dksX1_roof_7 3 rfl rfl)
theorem dX1_roof_156 : decode cX1_roof 156 = .ok (.if_icmp .ge 27, 3) := dk_162 0 27 (dk_at dksX1_roof_7 6 rfl rfl)
theorem dX1_roof_159 : decode cX1_roof 159 = .ok (.aload_n 0, 1) := dk_42 (dk_at dksX1_roof_7 9 rfl rfl)
theorem dX1_roof_160 : decode cX1_roof 160 = .ok (.getfield 19, 3) := dk_180 0 19 (dk_at dksX1_roof_7 10 rfl rfl)
theorem dX1_roof_163 : decode cX1_roof 163 = .ok (.getfield 162, 3) := dk_180 0 162 (dk_at dksX1_roof_7 13 rfl rfl)
theorem dX1_roof_166 : decode cX1_roof 166 = .ok (.iload_n 1, 1) := dk_27 (dk_at dksX1_roof_7 16 rfl rfl)
theorem dX1_roof_167 : decode cX1_roof 167 = .ok (.aaload, 1) := dk_50 (dk_at dksX1_roof_7 17 rfl rfl)
theorem dX1_roof_168 : decode cX1_roof 168 = .ok (.iload 5, 2) := dk_21 5 (dk_at dksX1_roof_7 18 rfl rfl)
theorem dX1_roof_170 : decode cX1_roof 170 = .ok (.iaload, 1) := dk_46 (dk_at dksX1_roof_7 20 rfl rfl)
theorem dX1_roof_171 : decode cX1_roof 171 = .ok (.ifCond .le 6, 3) := dk_158 0 6 (dk_at dksX1_roof_7 21 rfl rfl)
theorem dX1_roof_174 : decode cX1_roof 174 = .ok (.iinc 4 1, 3) := dk_132 4 1 (dk_at dksX1_roof_8 0 rfl rfl)
theorem dX1_roof_177 : decode cX1_roof 177 = .ok (.iinc 5 1, 3) := dk_132 5 1 (dk_at dksX1_roof_8 3 rfl rfl)
theorem dX1_roof_180 : decode cX1_roof 180 = .ok (.goto (-33), 3) := dk_167 255 223 (dk_at dksX1_roof_8 6 rfl rfl)
theorem dX1_roof_183 : decode cX1_roof 183 = .ok (.iload 4, 2) := dk_21 4 (dk_at dksX1_roof_8 9 rfl rfl)
theorem dX1_roof_185 : decode cX1_roof 185 = .ok (.ireturn, 1) := dk_172 (dk_at dksX1_roof_8 11 rfl rfl)
abbrev cX1_aRoof : ByteArray := prog_1_method_13_code
def yX1_aRoof : MethodName := ⟨RX1, "aRoof", "(I)V"⟩
def dkwX1_aRoof_0 : List UInt8 := [42, 27, 182, 0, 141, 184, 0, 138, 177]
abbrev dktX1_aRoof_0 : List UInt8 := dkwX1_aRoof_0 ++ []
theorem dksX1_aRoof_0 : cX1_aRoof.data.toList.drop 0 = dktX1_aRoof_0 := by decide +kernel
theorem dX1_aRoof_0 : decode cX1_aRoof 0 = .ok (.aload_n 0, 1) := dk_42 (dk_at dksX1_aRoof_0 0 rfl rfl)
theorem dX1_aRoof_1 : decode cX1_aRoof 1 = .ok (.iload_n 1, 1) := dk_27 (dk_at dksX1_aRoof_0 1 rfl rfl)
theorem dX1_aRoof_2 : decode cX1_aRoof 2 = .ok (.invokevirtual 141, 3) := dk_182 0 141 (dk_at dksX1_aRoof_0 2 rfl rfl)
theorem dX1_aRoof_5 : decode cX1_aRoof 5 = .ok (.invokestatic 138, 3) := dk_184 0 138 (dk_at dksX1_aRoof_0 5 rfl rfl)
theorem dX1_aRoof_8 : decode cX1_aRoof 8 = .ok (.return_, 1) := dk_177 (dk_at dksX1_aRoof_0 8 rfl rfl)
abbrev cX1_isRoof : ByteArray := prog_1_method_12_code
def yX1_isRoof : MethodName := ⟨RX1, "isRoof", "(I)Z"⟩
def dkwX1_isRoof_0 : List UInt8 := [27, 3, 42, 180, 0, 19, 180, 0, 109, 4, 100, 184, 0, 134, 172]
abbrev dktX1_isRoof_0 : List UInt8 := dkwX1_isRoof_0 ++ []
theorem dksX1_isRoof_0 : cX1_isRoof.data.toList.drop 0 = dktX1_isRoof_0 := by decide +kernel
theorem dX1_isRoof_0 : decode cX1_isRoof 0 = .ok (.iload_n 1, 1) := dk_27 (dk_at dksX1_isRoof_0 0 rfl rfl)
theorem dX1_isRoof_1 : decode cX1_isRoof 1 = .ok (.iconst 0, 1) := dk_3 (dk_at dksX1_isRoof_0 1 rfl rfl)
theorem dX1_isRoof_2 : decode cX1_isRoof 2 = .ok (.aload_n 0, 1) := dk_42 (dk_at dksX1_isRoof_0 2 rfl rfl)
theorem dX1_isRoof_3 : decode cX1_isRoof 3 = .ok (.getfield 19, 3) := dk_180 0 19 (dk_at dksX1_isRoof_0 3 rfl rfl)
theorem dX1_isRoof_6 : decode cX1_isRoof 6 = .ok (.getfield 109, 3) := dk_180 0 109 (dk_at dksX1_isRoof_0 6 rfl rfl)
theorem dX1_isRoof_9 : decode cX1_isRoof 9 = .ok (.iconst 1, 1) := dk_4 (dk_at dksX1_isRoof_0 9 rfl rfl)
theorem dX1_isRoof_10 : decode cX1_isRoof 10 = .ok (.isub, 1) := dk_100 (dk_at dksX1_isRoof_0 10 rfl rfl)
theorem dX1_isRoof_11 : decode cX1_isRoof 11 = .ok (.invokestatic 134, 3) := dk_184 0 134 (dk_at dksX1_isRoof_0 11 rfl rfl)
theorem dX1_isRoof_14 : decode cX1_isRoof 14 = .ok (.ireturn, 1) := dk_172 (dk_at dksX1_isRoof_0 14 rfl rfl)
abbrev cX1_flight : ByteArray := prog_1_method_18_code
def yX1_flight : MethodName := ⟨RX1, "flight", "(II)I"⟩
def dkwX1_flight_1 : List UInt8 := [42, 180, 0, 19, 180, 0, 162, 27, 50, 28, 46, 167, 0, 4, 2, 172]
abbrev dktX1_flight_1 : List UInt8 := dkwX1_flight_1 ++ []
def dkwX1_flight_0 : List UInt8 := [42, 27, 182, 0, 152, 42, 28, 182, 0, 152, 42, 180, 0, 19, 180, 0, 162, 27, 50, 28, 46, 158, 0, 17]
abbrev dktX1_flight_0 : List UInt8 := dkwX1_flight_0 ++ dktX1_flight_1
theorem dksX1_flight_0 : cX1_flight.data.toList.drop 0 = dktX1_flight_0 := by decide +kernel
theorem dksX1_flight_1 : cX1_flight.data.toList.drop 24 = dktX1_flight_1 := dk_seg dksX1_flight_0 24 rfl rfl
theorem dX1_flight_0 : decode cX1_flight 0 = .ok (.aload_n 0, 1) := dk_42 (dk_at dksX1_flight_0 0 rfl rfl)
theorem dX1_flight_1 : decode cX1_flight 1 = .ok (.iload_n 1, 1) := dk_27 (dk_at dksX1_flight_0 1 rfl rfl)
theorem dX1_flight_2 : decode cX1_flight 2 = .ok (.invokevirtual 152, 3) := dk_182 0 152 (dk_at dksX1_flight_0 2 rfl rfl)
theorem dX1_flight_5 : decode cX1_flight 5 = .ok (.aload_n 0, 1) := dk_42 (dk_at dksX1_flight_0 5 rfl rfl)
theorem dX1_flight_6 : decode cX1_flight 6 = .ok (.iload_n 2, 1) := dk_28 (dk_at dksX1_flight_0 6 rfl rfl)
theorem dX1_flight_7 : decode cX1_flight 7 = .ok (.invokevirtual 152, 3) := dk_182 0 152 (dk_at dksX1_flight_0 7 rfl rfl)
theorem dX1_flight_10 : decode cX1_flight 10 = .ok (.aload_n 0, 1) := dk_42 (dk_at dksX1_flight_0 10 rfl rfl)
theorem dX1_flight_11 : decode cX1_flight 11 = .ok (.getfield 19, 3) := dk_180 0 19 (dk_at dksX1_flight_0 11 rfl rfl)
theorem dX1_flight_14 : decode cX1_flight 14 = .ok (.getfield 162, 3) := dk_180 0 162 (dk_at dksX1_flight_0 14 rfl rfl)
theorem dX1_flight_17 : decode cX1_flight 17 = .ok (.iload_n 1, 1) := dk_27 (dk_at dksX1_flight_0 17 rfl rfl)
theorem dX1_flight_18 : decode cX1_flight 18 = .ok (.aaload, 1) := dk_50 (dk_at dksX1_flight_0 18 rfl rfl)
theorem dX1_flight_19 : decode cX1_flight 19 = .ok (.iload_n 2, 1) := dk_28 (dk_at dksX1_flight_0 19 rfl rfl)
theorem dX1_flight_20 : decode cX1_flight 20 = .ok (.iaload, 1) := dk_46 (dk_at dksX1_flight_0 20 rfl rfl)
theorem dX1_flight_21 : decode cX1_flight 21 = .ok (.ifCond .le 17, 3) := dk_158 0 17 (dk_at dksX1_flight_0 21 rfl rfl)
theorem dX1_flight_24 : decode cX1_flight 24 = .ok (.aload_n 0, 1) := dk_42 (dk_at dksX1_flight_1 0 rfl rfl)
theorem dX1_flight_25 : decode cX1_flight 25 = .ok (.getfield 19, 3) := dk_180 0 19 (dk_at dksX1_flight_1 1 rfl rfl)
theorem dX1_flight_28 : decode cX1_flight 28 = .ok (.getfield 162, 3) := dk_180 0 162 (dk_at dksX1_flight_1 4 rfl rfl)
theorem dX1_flight_31 : decode cX1_flight 31 = .ok (.iload_n 1, 1) := dk_27 (dk_at dksX1_flight_1 7 rfl rfl)
theorem dX1_flight_32 : decode cX1_flight 32 = .ok (.aaload, 1) := dk_50 (dk_at dksX1_flight_1 8 rfl rfl)
theorem dX1_flight_33 : decode cX1_flight 33 = .ok (.iload_n 2, 1) := dk_28 (dk_at dksX1_flight_1 9 rfl rfl)
theorem dX1_flight_34 : decode cX1_flight 34 = .ok (.iaload, 1) := dk_46 (dk_at dksX1_flight_1 10 rfl rfl)
theorem dX1_flight_35 : decode cX1_flight 35 = .ok (.goto 4, 3) := dk_167 0 4 (dk_at dksX1_flight_1 11 rfl rfl)
theorem dX1_flight_38 : decode cX1_flight 38 = .ok (.iconst (-1), 1) := dk_2 (dk_at dksX1_flight_1 14 rfl rfl)
theorem dX1_flight_39 : decode cX1_flight 39 = .ok (.ireturn, 1) := dk_172 (dk_at dksX1_flight_1 15 rfl rfl)
abbrev cX1_owl : ByteArray := prog_1_method_19_code
def yX1_owl : MethodName := ⟨RX1, "owl", "(II)I"⟩
def dkwX1_owl_4 : List UInt8 := [167, 0, 4, 3, 184, 0, 138, 42, 182, 0, 128, 27, 182, 0, 182, 172]
abbrev dktX1_owl_4 : List UInt8 := dkwX1_owl_4 ++ []
def dkwX1_owl_3 : List UInt8 := [172, 42, 180, 0, 87, 27, 184, 0, 178, 153, 0, 7, 4, 167, 0, 4, 3, 172, 28, 8, 160, 0, 7, 4]
abbrev dktX1_owl_3 : List UInt8 := dkwX1_owl_3 ++ dktX1_owl_4
def dkwX1_owl_2 : List UInt8 := [45, 180, 0, 170, 172, 45, 180, 0, 171, 172, 45, 182, 0, 174, 172, 42, 182, 0, 128, 180, 0, 175, 27, 46]
abbrev dktX1_owl_2 : List UInt8 := dkwX1_owl_2 ++ dktX1_owl_3
def dkwX1_owl_1 : List UInt8 := [170, 0, 0, 0, 75, 0, 0, 0, 0, 0, 0, 0, 4, 0, 0, 0, 33, 0, 0, 0, 38, 0, 0, 0, 43, 0, 0, 0, 48, 0, 0, 0, 58]
abbrev dktX1_owl_1 : List UInt8 := dkwX1_owl_1 ++ dktX1_owl_2
def dkwX1_owl_0 : List UInt8 := [42, 27, 182, 0, 166, 78, 28]
abbrev dktX1_owl_0 : List UInt8 := dkwX1_owl_0 ++ dktX1_owl_1
theorem dksX1_owl_0 : cX1_owl.data.toList.drop 0 = dktX1_owl_0 := by decide +kernel
theorem dksX1_owl_1 : cX1_owl.data.toList.drop 7 = dktX1_owl_1 := dk_seg dksX1_owl_0 7 rfl rfl
theorem dksX1_owl_2 : cX1_owl.data.toList.drop 40 = dktX1_owl_2 := dk_seg dksX1_owl_1 33 rfl rfl
theorem dksX1_owl_3 : cX1_owl.data.toList.drop 64 = dktX1_owl_3 := dk_seg dksX1_owl_2 24 rfl rfl
theorem dksX1_owl_4 : cX1_owl.data.toList.drop 88 = dktX1_owl_4 := dk_seg dksX1_owl_3 24 rfl rfl
theorem dX1_owl_0 : decode cX1_owl 0 = .ok (.aload_n 0, 1) := dk_42 (dk_at dksX1_owl_0 0 rfl rfl)
theorem dX1_owl_1 : decode cX1_owl 1 = .ok (.iload_n 1, 1) := dk_27 (dk_at dksX1_owl_0 1 rfl rfl)
theorem dX1_owl_2 : decode cX1_owl 2 = .ok (.invokevirtual 166, 3) := dk_182 0 166 (dk_at dksX1_owl_0 2 rfl rfl)
theorem dX1_owl_5 : decode cX1_owl 5 = .ok (.astore_n 3, 1) := dk_78 (dk_at dksX1_owl_0 5 rfl rfl)
theorem dX1_owl_6 : decode cX1_owl 6 = .ok (.iload_n 2, 1) := dk_28 (dk_at dksX1_owl_0 6 rfl rfl)
theorem dX1_owl_7 : decode cX1_owl 7 = .ok (.tableswitch 75 0 4 #[33, 38, 43, 48, 58], 33) := by decide +kernel
theorem dX1_owl_40 : decode cX1_owl 40 = .ok (.aload_n 3, 1) := dk_45 (dk_at dksX1_owl_2 0 rfl rfl)
theorem dX1_owl_41 : decode cX1_owl 41 = .ok (.getfield 170, 3) := dk_180 0 170 (dk_at dksX1_owl_2 1 rfl rfl)
theorem dX1_owl_44 : decode cX1_owl 44 = .ok (.ireturn, 1) := dk_172 (dk_at dksX1_owl_2 4 rfl rfl)
theorem dX1_owl_45 : decode cX1_owl 45 = .ok (.aload_n 3, 1) := dk_45 (dk_at dksX1_owl_2 5 rfl rfl)
theorem dX1_owl_46 : decode cX1_owl 46 = .ok (.getfield 171, 3) := dk_180 0 171 (dk_at dksX1_owl_2 6 rfl rfl)
theorem dX1_owl_49 : decode cX1_owl 49 = .ok (.ireturn, 1) := dk_172 (dk_at dksX1_owl_2 9 rfl rfl)
theorem dX1_owl_50 : decode cX1_owl 50 = .ok (.aload_n 3, 1) := dk_45 (dk_at dksX1_owl_2 10 rfl rfl)
theorem dX1_owl_51 : decode cX1_owl 51 = .ok (.invokevirtual 174, 3) := dk_182 0 174 (dk_at dksX1_owl_2 11 rfl rfl)
theorem dX1_owl_54 : decode cX1_owl 54 = .ok (.ireturn, 1) := dk_172 (dk_at dksX1_owl_2 14 rfl rfl)
theorem dX1_owl_55 : decode cX1_owl 55 = .ok (.aload_n 0, 1) := dk_42 (dk_at dksX1_owl_2 15 rfl rfl)
theorem dX1_owl_56 : decode cX1_owl 56 = .ok (.invokevirtual 128, 3) := dk_182 0 128 (dk_at dksX1_owl_2 16 rfl rfl)
theorem dX1_owl_59 : decode cX1_owl 59 = .ok (.getfield 175, 3) := dk_180 0 175 (dk_at dksX1_owl_2 19 rfl rfl)
theorem dX1_owl_62 : decode cX1_owl 62 = .ok (.iload_n 1, 1) := dk_27 (dk_at dksX1_owl_2 22 rfl rfl)
theorem dX1_owl_63 : decode cX1_owl 63 = .ok (.iaload, 1) := dk_46 (dk_at dksX1_owl_2 23 rfl rfl)
theorem dX1_owl_64 : decode cX1_owl 64 = .ok (.ireturn, 1) := dk_172 (dk_at dksX1_owl_3 0 rfl rfl)
theorem dX1_owl_65 : decode cX1_owl 65 = .ok (.aload_n 0, 1) := dk_42 (dk_at dksX1_owl_3 1 rfl rfl)
theorem dX1_owl_66 : decode cX1_owl 66 = .ok (.getfield 87, 3) := dk_180 0 87 (dk_at dksX1_owl_3 2 rfl rfl)
theorem dX1_owl_69 : decode cX1_owl 69 = .ok (.iload_n 1, 1) := dk_27 (dk_at dksX1_owl_3 5 rfl rfl)
theorem dX1_owl_70 : decode cX1_owl 70 = .ok (.invokestatic 178, 3) := dk_184 0 178 (dk_at dksX1_owl_3 6 rfl rfl)
theorem dX1_owl_73 : decode cX1_owl 73 = .ok (.ifCond .eq 7, 3) := dk_153 0 7 (dk_at dksX1_owl_3 9 rfl rfl)
theorem dX1_owl_76 : decode cX1_owl 76 = .ok (.iconst 1, 1) := dk_4 (dk_at dksX1_owl_3 12 rfl rfl)
theorem dX1_owl_77 : decode cX1_owl 77 = .ok (.goto 4, 3) := dk_167 0 4 (dk_at dksX1_owl_3 13 rfl rfl)
theorem dX1_owl_80 : decode cX1_owl 80 = .ok (.iconst 0, 1) := dk_3 (dk_at dksX1_owl_3 16 rfl rfl)
theorem dX1_owl_81 : decode cX1_owl 81 = .ok (.ireturn, 1) := dk_172 (dk_at dksX1_owl_3 17 rfl rfl)
theorem dX1_owl_82 : decode cX1_owl 82 = .ok (.iload_n 2, 1) := dk_28 (dk_at dksX1_owl_3 18 rfl rfl)
theorem dX1_owl_83 : decode cX1_owl 83 = .ok (.iconst 5, 1) := dk_8 (dk_at dksX1_owl_3 19 rfl rfl)
theorem dX1_owl_84 : decode cX1_owl 84 = .ok (.if_icmp .ne 7, 3) := dk_160 0 7 (dk_at dksX1_owl_3 20 rfl rfl)
theorem dX1_owl_87 : decode cX1_owl 87 = .ok (.iconst 1, 1) := dk_4 (dk_at dksX1_owl_3 23 rfl rfl)
theorem dX1_owl_88 : decode cX1_owl 88 = .ok (.goto 4, 3) := dk_167 0 4 (dk_at dksX1_owl_4 0 rfl rfl)
theorem dX1_owl_91 : decode cX1_owl 91 = .ok (.iconst 0, 1) := dk_3 (dk_at dksX1_owl_4 3 rfl rfl)
theorem dX1_owl_92 : decode cX1_owl 92 = .ok (.invokestatic 138, 3) := dk_184 0 138 (dk_at dksX1_owl_4 4 rfl rfl)
theorem dX1_owl_95 : decode cX1_owl 95 = .ok (.aload_n 0, 1) := dk_42 (dk_at dksX1_owl_4 7 rfl rfl)
theorem dX1_owl_96 : decode cX1_owl 96 = .ok (.invokevirtual 128, 3) := dk_182 0 128 (dk_at dksX1_owl_4 8 rfl rfl)
theorem dX1_owl_99 : decode cX1_owl 99 = .ok (.iload_n 1, 1) := dk_27 (dk_at dksX1_owl_4 11 rfl rfl)
theorem dX1_owl_100 : decode cX1_owl 100 = .ok (.invokevirtual 182, 3) := dk_182 0 182 (dk_at dksX1_owl_4 12 rfl rfl)
theorem dX1_owl_103 : decode cX1_owl 103 = .ok (.ireturn, 1) := dk_172 (dk_at dksX1_owl_4 15 rfl rfl)
abbrev cX1_anOwl : ByteArray := prog_1_method_14_code
def yX1_anOwl : MethodName := ⟨RX1, "anOwl", "(I)LWingTrams$Owl;"⟩
def dkwX1_anOwl_1 : List UInt8 := [180, 0, 19, 180, 0, 115, 27, 185, 0, 145, 2, 0, 192, 0, 149, 176]
abbrev dktX1_anOwl_1 : List UInt8 := dkwX1_anOwl_1 ++ []
def dkwX1_anOwl_0 : List UInt8 := [27, 3, 42, 180, 0, 19, 180, 0, 115, 185, 0, 118, 1, 0, 4, 100, 184, 0, 134, 184, 0, 138, 42]
abbrev dktX1_anOwl_0 : List UInt8 := dkwX1_anOwl_0 ++ dktX1_anOwl_1
theorem dksX1_anOwl_0 : cX1_anOwl.data.toList.drop 0 = dktX1_anOwl_0 := by decide +kernel
theorem dksX1_anOwl_1 : cX1_anOwl.data.toList.drop 23 = dktX1_anOwl_1 := dk_seg dksX1_anOwl_0 23 rfl rfl
theorem dX1_anOwl_0 : decode cX1_anOwl 0 = .ok (.iload_n 1, 1) := dk_27 (dk_at dksX1_anOwl_0 0 rfl rfl)
theorem dX1_anOwl_1 : decode cX1_anOwl 1 = .ok (.iconst 0, 1) := dk_3 (dk_at dksX1_anOwl_0 1 rfl rfl)
theorem dX1_anOwl_2 : decode cX1_anOwl 2 = .ok (.aload_n 0, 1) := dk_42 (dk_at dksX1_anOwl_0 2 rfl rfl)
theorem dX1_anOwl_3 : decode cX1_anOwl 3 = .ok (.getfield 19, 3) := dk_180 0 19 (dk_at dksX1_anOwl_0 3 rfl rfl)
theorem dX1_anOwl_6 : decode cX1_anOwl 6 = .ok (.getfield 115, 3) := dk_180 0 115 (dk_at dksX1_anOwl_0 6 rfl rfl)
theorem dX1_anOwl_9 : decode cX1_anOwl 9 = .ok (.invokeinterface 118 1, 5) := by decide +kernel
theorem dX1_anOwl_14 : decode cX1_anOwl 14 = .ok (.iconst 1, 1) := dk_4 (dk_at dksX1_anOwl_0 14 rfl rfl)
theorem dX1_anOwl_15 : decode cX1_anOwl 15 = .ok (.isub, 1) := dk_100 (dk_at dksX1_anOwl_0 15 rfl rfl)
theorem dX1_anOwl_16 : decode cX1_anOwl 16 = .ok (.invokestatic 134, 3) := dk_184 0 134 (dk_at dksX1_anOwl_0 16 rfl rfl)
theorem dX1_anOwl_19 : decode cX1_anOwl 19 = .ok (.invokestatic 138, 3) := dk_184 0 138 (dk_at dksX1_anOwl_0 19 rfl rfl)
theorem dX1_anOwl_22 : decode cX1_anOwl 22 = .ok (.aload_n 0, 1) := dk_42 (dk_at dksX1_anOwl_0 22 rfl rfl)
theorem dX1_anOwl_23 : decode cX1_anOwl 23 = .ok (.getfield 19, 3) := dk_180 0 19 (dk_at dksX1_anOwl_1 0 rfl rfl)
theorem dX1_anOwl_26 : decode cX1_anOwl 26 = .ok (.getfield 115, 3) := dk_180 0 115 (dk_at dksX1_anOwl_1 3 rfl rfl)
theorem dX1_anOwl_29 : decode cX1_anOwl 29 = .ok (.iload_n 1, 1) := dk_27 (dk_at dksX1_anOwl_1 6 rfl rfl)
theorem dX1_anOwl_30 : decode cX1_anOwl 30 = .ok (.invokeinterface 145 2, 5) := by decide +kernel
theorem dX1_anOwl_35 : decode cX1_anOwl 35 = .ok (.checkcast 149, 3) := dk_192 0 149 (dk_at dksX1_anOwl_1 12 rfl rfl)
theorem dX1_anOwl_38 : decode cX1_anOwl 38 = .ok (.areturn, 1) := dk_176 (dk_at dksX1_anOwl_1 15 rfl rfl)
abbrev cX1_stop : ByteArray := prog_1_method_20_code
def yX1_stop : MethodName := ⟨RX1, "stop", "(III)I"⟩
def dkwX1_stop_3 : List UInt8 := [46, 167, 0, 12, 25, 5, 180, 0, 196, 27, 50, 28, 46, 172]
abbrev dktX1_stop_3 : List UInt8 := dkwX1_stop_3 ++ []
def dkwX1_stop_2 : List UInt8 := [153, 0, 5, 2, 172, 42, 182, 0, 128, 58, 5, 29, 4, 160, 0, 15, 25, 5, 180, 0, 193, 27, 50, 28]
abbrev dktX1_stop_2 : List UInt8 := dkwX1_stop_2 ++ dktX1_stop_3
def dkwX1_stop_1 : List UInt8 := [184, 0, 186, 29, 154, 0, 10, 25, 4, 28, 182, 0, 190, 172, 42, 180, 0, 87, 27, 184, 0, 178]
abbrev dktX1_stop_1 : List UInt8 := dkwX1_stop_1 ++ dktX1_stop_2
def dkwX1_stop_0 : List UInt8 := [42, 27, 182, 0, 166, 58, 4, 28, 3, 25, 4, 182, 0, 174, 4, 100, 184, 0, 134, 184, 0, 138, 29, 5]
abbrev dktX1_stop_0 : List UInt8 := dkwX1_stop_0 ++ dktX1_stop_1
theorem dksX1_stop_0 : cX1_stop.data.toList.drop 0 = dktX1_stop_0 := by decide +kernel
theorem dksX1_stop_1 : cX1_stop.data.toList.drop 24 = dktX1_stop_1 := dk_seg dksX1_stop_0 24 rfl rfl
theorem dksX1_stop_2 : cX1_stop.data.toList.drop 46 = dktX1_stop_2 := dk_seg dksX1_stop_1 22 rfl rfl
theorem dksX1_stop_3 : cX1_stop.data.toList.drop 70 = dktX1_stop_3 := dk_seg dksX1_stop_2 24 rfl rfl
theorem dX1_stop_0 : decode cX1_stop 0 = .ok (.aload_n 0, 1) := dk_42 (dk_at dksX1_stop_0 0 rfl rfl)
theorem dX1_stop_1 : decode cX1_stop 1 = .ok (.iload_n 1, 1) := dk_27 (dk_at dksX1_stop_0 1 rfl rfl)
theorem dX1_stop_2 : decode cX1_stop 2 = .ok (.invokevirtual 166, 3) := dk_182 0 166 (dk_at dksX1_stop_0 2 rfl rfl)
theorem dX1_stop_5 : decode cX1_stop 5 = .ok (.astore 4, 2) := dk_58 4 (dk_at dksX1_stop_0 5 rfl rfl)
theorem dX1_stop_7 : decode cX1_stop 7 = .ok (.iload_n 2, 1) := dk_28 (dk_at dksX1_stop_0 7 rfl rfl)
theorem dX1_stop_8 : decode cX1_stop 8 = .ok (.iconst 0, 1) := dk_3 (dk_at dksX1_stop_0 8 rfl rfl)
theorem dX1_stop_9 : decode cX1_stop 9 = .ok (.aload 4, 2) := dk_25 4 (dk_at dksX1_stop_0 9 rfl rfl)
theorem dX1_stop_11 : decode cX1_stop 11 = .ok (.invokevirtual 174, 3) := dk_182 0 174 (dk_at dksX1_stop_0 11 rfl rfl)
theorem dX1_stop_14 : decode cX1_stop 14 = .ok (.iconst 1, 1) := dk_4 (dk_at dksX1_stop_0 14 rfl rfl)
theorem dX1_stop_15 : decode cX1_stop 15 = .ok (.isub, 1) := dk_100 (dk_at dksX1_stop_0 15 rfl rfl)
theorem dX1_stop_16 : decode cX1_stop 16 = .ok (.invokestatic 134, 3) := dk_184 0 134 (dk_at dksX1_stop_0 16 rfl rfl)
theorem dX1_stop_19 : decode cX1_stop 19 = .ok (.invokestatic 138, 3) := dk_184 0 138 (dk_at dksX1_stop_0 19 rfl rfl)
theorem dX1_stop_22 : decode cX1_stop 22 = .ok (.iload_n 3, 1) := dk_29 (dk_at dksX1_stop_0 22 rfl rfl)
theorem dX1_stop_23 : decode cX1_stop 23 = .ok (.iconst 2, 1) := dk_5 (dk_at dksX1_stop_0 23 rfl rfl)
theorem dX1_stop_24 : decode cX1_stop 24 = .ok (.invokestatic 186, 3) := dk_184 0 186 (dk_at dksX1_stop_1 0 rfl rfl)
theorem dX1_stop_27 : decode cX1_stop 27 = .ok (.iload_n 3, 1) := dk_29 (dk_at dksX1_stop_1 3 rfl rfl)
theorem dX1_stop_28 : decode cX1_stop 28 = .ok (.ifCond .ne 10, 3) := dk_154 0 10 (dk_at dksX1_stop_1 4 rfl rfl)
theorem dX1_stop_31 : decode cX1_stop 31 = .ok (.aload 4, 2) := dk_25 4 (dk_at dksX1_stop_1 7 rfl rfl)
theorem dX1_stop_33 : decode cX1_stop 33 = .ok (.iload_n 2, 1) := dk_28 (dk_at dksX1_stop_1 9 rfl rfl)
theorem dX1_stop_34 : decode cX1_stop 34 = .ok (.invokevirtual 190, 3) := dk_182 0 190 (dk_at dksX1_stop_1 10 rfl rfl)
theorem dX1_stop_37 : decode cX1_stop 37 = .ok (.ireturn, 1) := dk_172 (dk_at dksX1_stop_1 13 rfl rfl)
theorem dX1_stop_38 : decode cX1_stop 38 = .ok (.aload_n 0, 1) := dk_42 (dk_at dksX1_stop_1 14 rfl rfl)
theorem dX1_stop_39 : decode cX1_stop 39 = .ok (.getfield 87, 3) := dk_180 0 87 (dk_at dksX1_stop_1 15 rfl rfl)
theorem dX1_stop_42 : decode cX1_stop 42 = .ok (.iload_n 1, 1) := dk_27 (dk_at dksX1_stop_1 18 rfl rfl)
theorem dX1_stop_43 : decode cX1_stop 43 = .ok (.invokestatic 178, 3) := dk_184 0 178 (dk_at dksX1_stop_1 19 rfl rfl)
theorem dX1_stop_46 : decode cX1_stop 46 = .ok (.ifCond .eq 5, 3) := dk_153 0 5 (dk_at dksX1_stop_2 0 rfl rfl)
theorem dX1_stop_49 : decode cX1_stop 49 = .ok (.iconst (-1), 1) := dk_2 (dk_at dksX1_stop_2 3 rfl rfl)
theorem dX1_stop_50 : decode cX1_stop 50 = .ok (.ireturn, 1) := dk_172 (dk_at dksX1_stop_2 4 rfl rfl)
theorem dX1_stop_51 : decode cX1_stop 51 = .ok (.aload_n 0, 1) := dk_42 (dk_at dksX1_stop_2 5 rfl rfl)
theorem dX1_stop_52 : decode cX1_stop 52 = .ok (.invokevirtual 128, 3) := dk_182 0 128 (dk_at dksX1_stop_2 6 rfl rfl)
theorem dX1_stop_55 : decode cX1_stop 55 = .ok (.astore 5, 2) := dk_58 5 (dk_at dksX1_stop_2 9 rfl rfl)
theorem dX1_stop_57 : decode cX1_stop 57 = .ok (.iload_n 3, 1) := dk_29 (dk_at dksX1_stop_2 11 rfl rfl)
theorem dX1_stop_58 : decode cX1_stop 58 = .ok (.iconst 1, 1) := dk_4 (dk_at dksX1_stop_2 12 rfl rfl)
theorem dX1_stop_59 : decode cX1_stop 59 = .ok (.if_icmp .ne 15, 3) := dk_160 0 15 (dk_at dksX1_stop_2 13 rfl rfl)
theorem dX1_stop_62 : decode cX1_stop 62 = .ok (.aload 5, 2) := dk_25 5 (dk_at dksX1_stop_2 16 rfl rfl)
theorem dX1_stop_64 : decode cX1_stop 64 = .ok (.getfield 193, 3) := dk_180 0 193 (dk_at dksX1_stop_2 18 rfl rfl)
theorem dX1_stop_67 : decode cX1_stop 67 = .ok (.iload_n 1, 1) := dk_27 (dk_at dksX1_stop_2 21 rfl rfl)
theorem dX1_stop_68 : decode cX1_stop 68 = .ok (.aaload, 1) := dk_50 (dk_at dksX1_stop_2 22 rfl rfl)
theorem dX1_stop_69 : decode cX1_stop 69 = .ok (.iload_n 2, 1) := dk_28 (dk_at dksX1_stop_2 23 rfl rfl)
theorem dX1_stop_70 : decode cX1_stop 70 = .ok (.iaload, 1) := dk_46 (dk_at dksX1_stop_3 0 rfl rfl)
theorem dX1_stop_71 : decode cX1_stop 71 = .ok (.goto 12, 3) := dk_167 0 12 (dk_at dksX1_stop_3 1 rfl rfl)
theorem dX1_stop_74 : decode cX1_stop 74 = .ok (.aload 5, 2) := dk_25 5 (dk_at dksX1_stop_3 4 rfl rfl)
theorem dX1_stop_76 : decode cX1_stop 76 = .ok (.getfield 196, 3) := dk_180 0 196 (dk_at dksX1_stop_3 6 rfl rfl)
theorem dX1_stop_79 : decode cX1_stop 79 = .ok (.iload_n 1, 1) := dk_27 (dk_at dksX1_stop_3 9 rfl rfl)
theorem dX1_stop_80 : decode cX1_stop 80 = .ok (.aaload, 1) := dk_50 (dk_at dksX1_stop_3 10 rfl rfl)
theorem dX1_stop_81 : decode cX1_stop 81 = .ok (.iload_n 2, 1) := dk_28 (dk_at dksX1_stop_3 11 rfl rfl)
theorem dX1_stop_82 : decode cX1_stop 82 = .ok (.iaload, 1) := dk_46 (dk_at dksX1_stop_3 12 rfl rfl)
theorem dX1_stop_83 : decode cX1_stop 83 = .ok (.ireturn, 1) := dk_172 (dk_at dksX1_stop_3 13 rfl rfl)
abbrev cX1_oneOf : ByteArray := prog_1_method_16_code
def yX1_oneOf : MethodName := ⟨RX1, "oneOf", "(II)V"⟩
def dkwX1_oneOf_0 : List UInt8 := [26, 3, 27, 184, 0, 134, 184, 0, 138, 177]
abbrev dktX1_oneOf_0 : List UInt8 := dkwX1_oneOf_0 ++ []
theorem dksX1_oneOf_0 : cX1_oneOf.data.toList.drop 0 = dktX1_oneOf_0 := by decide +kernel
theorem dX1_oneOf_0 : decode cX1_oneOf 0 = .ok (.iload_n 0, 1) := dk_26 (dk_at dksX1_oneOf_0 0 rfl rfl)
theorem dX1_oneOf_1 : decode cX1_oneOf 1 = .ok (.iconst 0, 1) := dk_3 (dk_at dksX1_oneOf_0 1 rfl rfl)
theorem dX1_oneOf_2 : decode cX1_oneOf 2 = .ok (.iload_n 1, 1) := dk_27 (dk_at dksX1_oneOf_0 2 rfl rfl)
theorem dX1_oneOf_3 : decode cX1_oneOf 3 = .ok (.invokestatic 134, 3) := dk_184 0 134 (dk_at dksX1_oneOf_0 3 rfl rfl)
theorem dX1_oneOf_6 : decode cX1_oneOf 6 = .ok (.invokestatic 138, 3) := dk_184 0 138 (dk_at dksX1_oneOf_0 6 rfl rfl)
theorem dX1_oneOf_9 : decode cX1_oneOf 9 = .ok (.return_, 1) := dk_177 (dk_at dksX1_oneOf_0 9 rfl rfl)
abbrev cX1_rider : ByteArray := prog_1_method_21_code
def yX1_rider : MethodName := ⟨RX1, "rider", "(II)I"⟩
def dkwX1_rider_0 : List UInt8 := [42, 27, 182, 0, 199, 78, 28, 6, 184, 0, 186, 45, 28, 46, 172]
abbrev dktX1_rider_0 : List UInt8 := dkwX1_rider_0 ++ []
theorem dksX1_rider_0 : cX1_rider.data.toList.drop 0 = dktX1_rider_0 := by decide +kernel
theorem dX1_rider_0 : decode cX1_rider 0 = .ok (.aload_n 0, 1) := dk_42 (dk_at dksX1_rider_0 0 rfl rfl)
theorem dX1_rider_1 : decode cX1_rider 1 = .ok (.iload_n 1, 1) := dk_27 (dk_at dksX1_rider_0 1 rfl rfl)
theorem dX1_rider_2 : decode cX1_rider 2 = .ok (.invokevirtual 199, 3) := dk_182 0 199 (dk_at dksX1_rider_0 2 rfl rfl)
theorem dX1_rider_5 : decode cX1_rider 5 = .ok (.astore_n 3, 1) := dk_78 (dk_at dksX1_rider_0 5 rfl rfl)
theorem dX1_rider_6 : decode cX1_rider 6 = .ok (.iload_n 2, 1) := dk_28 (dk_at dksX1_rider_0 6 rfl rfl)
theorem dX1_rider_7 : decode cX1_rider 7 = .ok (.iconst 3, 1) := dk_6 (dk_at dksX1_rider_0 7 rfl rfl)
theorem dX1_rider_8 : decode cX1_rider 8 = .ok (.invokestatic 186, 3) := dk_184 0 186 (dk_at dksX1_rider_0 8 rfl rfl)
theorem dX1_rider_11 : decode cX1_rider 11 = .ok (.aload_n 3, 1) := dk_45 (dk_at dksX1_rider_0 11 rfl rfl)
theorem dX1_rider_12 : decode cX1_rider 12 = .ok (.iload_n 2, 1) := dk_28 (dk_at dksX1_rider_0 12 rfl rfl)
theorem dX1_rider_13 : decode cX1_rider 13 = .ok (.iaload, 1) := dk_46 (dk_at dksX1_rider_0 13 rfl rfl)
theorem dX1_rider_14 : decode cX1_rider 14 = .ok (.ireturn, 1) := dk_172 (dk_at dksX1_rider_0 14 rfl rfl)
abbrev cX1_aRider : ByteArray := prog_1_method_15_code
def yX1_aRider : MethodName := ⟨RX1, "aRider", "(I)[I"⟩
def dkwX1_aRider_1 : List UInt8 := [180, 0, 19, 180, 0, 122, 27, 185, 0, 145, 2, 0, 192, 0, 151, 176]
abbrev dktX1_aRider_1 : List UInt8 := dkwX1_aRider_1 ++ []
def dkwX1_aRider_0 : List UInt8 := [27, 3, 42, 180, 0, 19, 180, 0, 122, 185, 0, 118, 1, 0, 4, 100, 184, 0, 134, 184, 0, 138, 42]
abbrev dktX1_aRider_0 : List UInt8 := dkwX1_aRider_0 ++ dktX1_aRider_1
theorem dksX1_aRider_0 : cX1_aRider.data.toList.drop 0 = dktX1_aRider_0 := by decide +kernel
theorem dksX1_aRider_1 : cX1_aRider.data.toList.drop 23 = dktX1_aRider_1 := dk_seg dksX1_aRider_0 23 rfl rfl
theorem dX1_aRider_0 : decode cX1_aRider 0 = .ok (.iload_n 1, 1) := dk_27 (dk_at dksX1_aRider_0 0 rfl rfl)
theorem dX1_aRider_1 : decode cX1_aRider 1 = .ok (.iconst 0, 1) := dk_3 (dk_at dksX1_aRider_0 1 rfl rfl)
theorem dX1_aRider_2 : decode cX1_aRider 2 = .ok (.aload_n 0, 1) := dk_42 (dk_at dksX1_aRider_0 2 rfl rfl)
theorem dX1_aRider_3 : decode cX1_aRider 3 = .ok (.getfield 19, 3) := dk_180 0 19 (dk_at dksX1_aRider_0 3 rfl rfl)
theorem dX1_aRider_6 : decode cX1_aRider 6 = .ok (.getfield 122, 3) := dk_180 0 122 (dk_at dksX1_aRider_0 6 rfl rfl)
theorem dX1_aRider_9 : decode cX1_aRider 9 = .ok (.invokeinterface 118 1, 5) := by decide +kernel
theorem dX1_aRider_14 : decode cX1_aRider 14 = .ok (.iconst 1, 1) := dk_4 (dk_at dksX1_aRider_0 14 rfl rfl)
theorem dX1_aRider_15 : decode cX1_aRider 15 = .ok (.isub, 1) := dk_100 (dk_at dksX1_aRider_0 15 rfl rfl)
theorem dX1_aRider_16 : decode cX1_aRider 16 = .ok (.invokestatic 134, 3) := dk_184 0 134 (dk_at dksX1_aRider_0 16 rfl rfl)
theorem dX1_aRider_19 : decode cX1_aRider 19 = .ok (.invokestatic 138, 3) := dk_184 0 138 (dk_at dksX1_aRider_0 19 rfl rfl)
theorem dX1_aRider_22 : decode cX1_aRider 22 = .ok (.aload_n 0, 1) := dk_42 (dk_at dksX1_aRider_0 22 rfl rfl)
theorem dX1_aRider_23 : decode cX1_aRider 23 = .ok (.getfield 19, 3) := dk_180 0 19 (dk_at dksX1_aRider_1 0 rfl rfl)
theorem dX1_aRider_26 : decode cX1_aRider 26 = .ok (.getfield 122, 3) := dk_180 0 122 (dk_at dksX1_aRider_1 3 rfl rfl)
theorem dX1_aRider_29 : decode cX1_aRider 29 = .ok (.iload_n 1, 1) := dk_27 (dk_at dksX1_aRider_1 6 rfl rfl)
theorem dX1_aRider_30 : decode cX1_aRider 30 = .ok (.invokeinterface 145 2, 5) := by decide +kernel
theorem dX1_aRider_35 : decode cX1_aRider 35 = .ok (.checkcast 151, 3) := dk_192 0 151 (dk_at dksX1_aRider_1 12 rfl rfl)
theorem dX1_aRider_38 : decode cX1_aRider 38 = .ok (.areturn, 1) := dk_176 (dk_at dksX1_aRider_1 15 rfl rfl)
abbrev cX1_where : ByteArray := prog_1_method_22_code
def yX1_where : MethodName := ⟨RX1, "where", "(II)I"⟩
def dkwX1_where_0 : List UInt8 := [42, 27, 182, 0, 166, 87, 42, 182, 0, 128, 27, 28, 182, 0, 203, 172]
abbrev dktX1_where_0 : List UInt8 := dkwX1_where_0 ++ []
theorem dksX1_where_0 : cX1_where.data.toList.drop 0 = dktX1_where_0 := by decide +kernel
theorem dX1_where_0 : decode cX1_where 0 = .ok (.aload_n 0, 1) := dk_42 (dk_at dksX1_where_0 0 rfl rfl)
theorem dX1_where_1 : decode cX1_where 1 = .ok (.iload_n 1, 1) := dk_27 (dk_at dksX1_where_0 1 rfl rfl)
theorem dX1_where_2 : decode cX1_where 2 = .ok (.invokevirtual 166, 3) := dk_182 0 166 (dk_at dksX1_where_0 2 rfl rfl)
theorem dX1_where_5 : decode cX1_where 5 = .ok (.pop, 1) := dk_87 (dk_at dksX1_where_0 5 rfl rfl)
theorem dX1_where_6 : decode cX1_where 6 = .ok (.aload_n 0, 1) := dk_42 (dk_at dksX1_where_0 6 rfl rfl)
theorem dX1_where_7 : decode cX1_where 7 = .ok (.invokevirtual 128, 3) := dk_182 0 128 (dk_at dksX1_where_0 7 rfl rfl)
theorem dX1_where_10 : decode cX1_where 10 = .ok (.iload_n 1, 1) := dk_27 (dk_at dksX1_where_0 10 rfl rfl)
theorem dX1_where_11 : decode cX1_where 11 = .ok (.iload_n 2, 1) := dk_28 (dk_at dksX1_where_0 11 rfl rfl)
theorem dX1_where_12 : decode cX1_where 12 = .ok (.invokevirtual 203, 3) := dk_182 0 203 (dk_at dksX1_where_0 12 rfl rfl)
theorem dX1_where_15 : decode cX1_where 15 = .ok (.ireturn, 1) := dk_172 (dk_at dksX1_where_0 15 rfl rfl)
abbrev cX1_nest : ByteArray := prog_1_method_28_code
def yX1_nest : MethodName := ⟨RX1, "nest", "(IZ)Z"⟩
def dkwX1_nest_2 : List UInt8 := [130, 181, 0, 87, 4, 172]
abbrev dktX1_nest_2 : List UInt8 := dkwX1_nest_2 ++ []
def dkwX1_nest_1 : List UInt8 := [46, 4, 96, 79, 3, 172, 42, 6, 3, 42, 180, 0, 87, 182, 0, 214, 42, 89, 180, 0, 87, 4, 27, 120]
abbrev dktX1_nest_1 : List UInt8 := dkwX1_nest_1 ++ dktX1_nest_2
def dkwX1_nest_0 : List UInt8 := [42, 27, 182, 0, 166, 87, 42, 180, 0, 87, 27, 184, 0, 178, 28, 160, 0, 15, 42, 180, 0, 38, 4, 92]
abbrev dktX1_nest_0 : List UInt8 := dkwX1_nest_0 ++ dktX1_nest_1
theorem dksX1_nest_0 : cX1_nest.data.toList.drop 0 = dktX1_nest_0 := by decide +kernel
theorem dksX1_nest_1 : cX1_nest.data.toList.drop 24 = dktX1_nest_1 := dk_seg dksX1_nest_0 24 rfl rfl
theorem dksX1_nest_2 : cX1_nest.data.toList.drop 48 = dktX1_nest_2 := dk_seg dksX1_nest_1 24 rfl rfl
theorem dX1_nest_0 : decode cX1_nest 0 = .ok (.aload_n 0, 1) := dk_42 (dk_at dksX1_nest_0 0 rfl rfl)
theorem dX1_nest_1 : decode cX1_nest 1 = .ok (.iload_n 1, 1) := dk_27 (dk_at dksX1_nest_0 1 rfl rfl)
theorem dX1_nest_2 : decode cX1_nest 2 = .ok (.invokevirtual 166, 3) := dk_182 0 166 (dk_at dksX1_nest_0 2 rfl rfl)
theorem dX1_nest_5 : decode cX1_nest 5 = .ok (.pop, 1) := dk_87 (dk_at dksX1_nest_0 5 rfl rfl)
theorem dX1_nest_6 : decode cX1_nest 6 = .ok (.aload_n 0, 1) := dk_42 (dk_at dksX1_nest_0 6 rfl rfl)
theorem dX1_nest_7 : decode cX1_nest 7 = .ok (.getfield 87, 3) := dk_180 0 87 (dk_at dksX1_nest_0 7 rfl rfl)
theorem dX1_nest_10 : decode cX1_nest 10 = .ok (.iload_n 1, 1) := dk_27 (dk_at dksX1_nest_0 10 rfl rfl)
theorem dX1_nest_11 : decode cX1_nest 11 = .ok (.invokestatic 178, 3) := dk_184 0 178 (dk_at dksX1_nest_0 11 rfl rfl)
theorem dX1_nest_14 : decode cX1_nest 14 = .ok (.iload_n 2, 1) := dk_28 (dk_at dksX1_nest_0 14 rfl rfl)
theorem dX1_nest_15 : decode cX1_nest 15 = .ok (.if_icmp .ne 15, 3) := dk_160 0 15 (dk_at dksX1_nest_0 15 rfl rfl)
theorem dX1_nest_18 : decode cX1_nest 18 = .ok (.aload_n 0, 1) := dk_42 (dk_at dksX1_nest_0 18 rfl rfl)
theorem dX1_nest_19 : decode cX1_nest 19 = .ok (.getfield 38, 3) := dk_180 0 38 (dk_at dksX1_nest_0 19 rfl rfl)
theorem dX1_nest_22 : decode cX1_nest 22 = .ok (.iconst 1, 1) := dk_4 (dk_at dksX1_nest_0 22 rfl rfl)
theorem dX1_nest_23 : decode cX1_nest 23 = .ok (.dup2, 1) := dk_92 (dk_at dksX1_nest_0 23 rfl rfl)
theorem dX1_nest_24 : decode cX1_nest 24 = .ok (.iaload, 1) := dk_46 (dk_at dksX1_nest_1 0 rfl rfl)
theorem dX1_nest_25 : decode cX1_nest 25 = .ok (.iconst 1, 1) := dk_4 (dk_at dksX1_nest_1 1 rfl rfl)
theorem dX1_nest_26 : decode cX1_nest 26 = .ok (.iadd, 1) := dk_96 (dk_at dksX1_nest_1 2 rfl rfl)
theorem dX1_nest_27 : decode cX1_nest 27 = .ok (.iastore, 1) := dk_79 (dk_at dksX1_nest_1 3 rfl rfl)
theorem dX1_nest_28 : decode cX1_nest 28 = .ok (.iconst 0, 1) := dk_3 (dk_at dksX1_nest_1 4 rfl rfl)
theorem dX1_nest_29 : decode cX1_nest 29 = .ok (.ireturn, 1) := dk_172 (dk_at dksX1_nest_1 5 rfl rfl)
theorem dX1_nest_30 : decode cX1_nest 30 = .ok (.aload_n 0, 1) := dk_42 (dk_at dksX1_nest_1 6 rfl rfl)
theorem dX1_nest_31 : decode cX1_nest 31 = .ok (.iconst 3, 1) := dk_6 (dk_at dksX1_nest_1 7 rfl rfl)
theorem dX1_nest_32 : decode cX1_nest 32 = .ok (.iconst 0, 1) := dk_3 (dk_at dksX1_nest_1 8 rfl rfl)
theorem dX1_nest_33 : decode cX1_nest 33 = .ok (.aload_n 0, 1) := dk_42 (dk_at dksX1_nest_1 9 rfl rfl)
theorem dX1_nest_34 : decode cX1_nest 34 = .ok (.getfield 87, 3) := dk_180 0 87 (dk_at dksX1_nest_1 10 rfl rfl)
theorem dX1_nest_37 : decode cX1_nest 37 = .ok (.invokevirtual 214, 3) := dk_182 0 214 (dk_at dksX1_nest_1 13 rfl rfl)
theorem dX1_nest_40 : decode cX1_nest 40 = .ok (.aload_n 0, 1) := dk_42 (dk_at dksX1_nest_1 16 rfl rfl)
theorem dX1_nest_41 : decode cX1_nest 41 = .ok (.dup, 1) := dk_89 (dk_at dksX1_nest_1 17 rfl rfl)
theorem dX1_nest_42 : decode cX1_nest 42 = .ok (.getfield 87, 3) := dk_180 0 87 (dk_at dksX1_nest_1 18 rfl rfl)
theorem dX1_nest_45 : decode cX1_nest 45 = .ok (.iconst 1, 1) := dk_4 (dk_at dksX1_nest_1 21 rfl rfl)
theorem dX1_nest_46 : decode cX1_nest 46 = .ok (.iload_n 1, 1) := dk_27 (dk_at dksX1_nest_1 22 rfl rfl)
theorem dX1_nest_47 : decode cX1_nest 47 = .ok (.ishl, 1) := dk_120 (dk_at dksX1_nest_1 23 rfl rfl)
theorem dX1_nest_48 : decode cX1_nest 48 = .ok (.ixor, 1) := dk_130 (dk_at dksX1_nest_2 0 rfl rfl)
theorem dX1_nest_49 : decode cX1_nest 49 = .ok (.putfield 87, 3) := dk_181 0 87 (dk_at dksX1_nest_2 1 rfl rfl)
theorem dX1_nest_52 : decode cX1_nest 52 = .ok (.iconst 1, 1) := dk_4 (dk_at dksX1_nest_2 4 rfl rfl)
theorem dX1_nest_53 : decode cX1_nest 53 = .ok (.ireturn, 1) := dk_172 (dk_at dksX1_nest_2 5 rfl rfl)
abbrev cX1_grain : ByteArray := prog_1_method_29_code
def yX1_grain : MethodName := ⟨RX1, "grain", "(II)I"⟩
def dkwX1_grain_2 : List UInt8 := [28, 79, 29, 172]
abbrev dktX1_grain_2 : List UInt8 := dkwX1_grain_2 ++ []
def dkwX1_grain_1 : List UInt8 := [180, 0, 19, 180, 0, 156, 27, 46, 62, 42, 7, 27, 29, 182, 0, 214, 42, 180, 0, 19, 180, 0, 156, 27]
abbrev dktX1_grain_1 : List UInt8 := dkwX1_grain_1 ++ dktX1_grain_2
def dkwX1_grain_0 : List UInt8 := [42, 27, 182, 0, 152, 28, 3, 16, 9, 184, 0, 134, 154, 0, 9, 42, 4, 182, 0, 218, 172, 42]
abbrev dktX1_grain_0 : List UInt8 := dkwX1_grain_0 ++ dktX1_grain_1
theorem dksX1_grain_0 : cX1_grain.data.toList.drop 0 = dktX1_grain_0 := by decide +kernel
theorem dksX1_grain_1 : cX1_grain.data.toList.drop 22 = dktX1_grain_1 := dk_seg dksX1_grain_0 22 rfl rfl
theorem dksX1_grain_2 : cX1_grain.data.toList.drop 46 = dktX1_grain_2 := dk_seg dksX1_grain_1 24 rfl rfl
theorem dX1_grain_0 : decode cX1_grain 0 = .ok (.aload_n 0, 1) := dk_42 (dk_at dksX1_grain_0 0 rfl rfl)
theorem dX1_grain_1 : decode cX1_grain 1 = .ok (.iload_n 1, 1) := dk_27 (dk_at dksX1_grain_0 1 rfl rfl)
theorem dX1_grain_2 : decode cX1_grain 2 = .ok (.invokevirtual 152, 3) := dk_182 0 152 (dk_at dksX1_grain_0 2 rfl rfl)
theorem dX1_grain_5 : decode cX1_grain 5 = .ok (.iload_n 2, 1) := dk_28 (dk_at dksX1_grain_0 5 rfl rfl)
theorem dX1_grain_6 : decode cX1_grain 6 = .ok (.iconst 0, 1) := dk_3 (dk_at dksX1_grain_0 6 rfl rfl)
theorem dX1_grain_7 : decode cX1_grain 7 = .ok (.bipush 9, 2) := dk_16 9 (dk_at dksX1_grain_0 7 rfl rfl)
theorem dX1_grain_9 : decode cX1_grain 9 = .ok (.invokestatic 134, 3) := dk_184 0 134 (dk_at dksX1_grain_0 9 rfl rfl)
theorem dX1_grain_12 : decode cX1_grain 12 = .ok (.ifCond .ne 9, 3) := dk_154 0 9 (dk_at dksX1_grain_0 12 rfl rfl)
theorem dX1_grain_15 : decode cX1_grain 15 = .ok (.aload_n 0, 1) := dk_42 (dk_at dksX1_grain_0 15 rfl rfl)
theorem dX1_grain_16 : decode cX1_grain 16 = .ok (.iconst 1, 1) := dk_4 (dk_at dksX1_grain_0 16 rfl rfl)
theorem dX1_grain_17 : decode cX1_grain 17 = .ok (.invokevirtual 218, 3) := dk_182 0 218 (dk_at dksX1_grain_0 17 rfl rfl)
theorem dX1_grain_20 : decode cX1_grain 20 = .ok (.ireturn, 1) := dk_172 (dk_at dksX1_grain_0 20 rfl rfl)
theorem dX1_grain_21 : decode cX1_grain 21 = .ok (.aload_n 0, 1) := dk_42 (dk_at dksX1_grain_0 21 rfl rfl)
theorem dX1_grain_22 : decode cX1_grain 22 = .ok (.getfield 19, 3) := dk_180 0 19 (dk_at dksX1_grain_1 0 rfl rfl)
theorem dX1_grain_25 : decode cX1_grain 25 = .ok (.getfield 156, 3) := dk_180 0 156 (dk_at dksX1_grain_1 3 rfl rfl)
theorem dX1_grain_28 : decode cX1_grain 28 = .ok (.iload_n 1, 1) := dk_27 (dk_at dksX1_grain_1 6 rfl rfl)
theorem dX1_grain_29 : decode cX1_grain 29 = .ok (.iaload, 1) := dk_46 (dk_at dksX1_grain_1 7 rfl rfl)
theorem dX1_grain_30 : decode cX1_grain 30 = .ok (.istore_n 3, 1) := dk_62 (dk_at dksX1_grain_1 8 rfl rfl)
theorem dX1_grain_31 : decode cX1_grain 31 = .ok (.aload_n 0, 1) := dk_42 (dk_at dksX1_grain_1 9 rfl rfl)
theorem dX1_grain_32 : decode cX1_grain 32 = .ok (.iconst 4, 1) := dk_7 (dk_at dksX1_grain_1 10 rfl rfl)
theorem dX1_grain_33 : decode cX1_grain 33 = .ok (.iload_n 1, 1) := dk_27 (dk_at dksX1_grain_1 11 rfl rfl)
theorem dX1_grain_34 : decode cX1_grain 34 = .ok (.iload_n 3, 1) := dk_29 (dk_at dksX1_grain_1 12 rfl rfl)
theorem dX1_grain_35 : decode cX1_grain 35 = .ok (.invokevirtual 214, 3) := dk_182 0 214 (dk_at dksX1_grain_1 13 rfl rfl)
theorem dX1_grain_38 : decode cX1_grain 38 = .ok (.aload_n 0, 1) := dk_42 (dk_at dksX1_grain_1 16 rfl rfl)
theorem dX1_grain_39 : decode cX1_grain 39 = .ok (.getfield 19, 3) := dk_180 0 19 (dk_at dksX1_grain_1 17 rfl rfl)
theorem dX1_grain_42 : decode cX1_grain 42 = .ok (.getfield 156, 3) := dk_180 0 156 (dk_at dksX1_grain_1 20 rfl rfl)
theorem dX1_grain_45 : decode cX1_grain 45 = .ok (.iload_n 1, 1) := dk_27 (dk_at dksX1_grain_1 23 rfl rfl)
theorem dX1_grain_46 : decode cX1_grain 46 = .ok (.iload_n 2, 1) := dk_28 (dk_at dksX1_grain_2 0 rfl rfl)
theorem dX1_grain_47 : decode cX1_grain 47 = .ok (.iastore, 1) := dk_79 (dk_at dksX1_grain_2 1 rfl rfl)
theorem dX1_grain_48 : decode cX1_grain 48 = .ok (.iload_n 3, 1) := dk_29 (dk_at dksX1_grain_2 2 rfl rfl)
theorem dX1_grain_49 : decode cX1_grain 49 = .ok (.ireturn, 1) := dk_172 (dk_at dksX1_grain_2 3 rfl rfl)
abbrev cX1_start : ByteArray := prog_1_method_30_code
def yX1_start : MethodName := ⟨RX1, "start", "(II)I"⟩
def dkwX1_start_1 : List UInt8 := [180, 0, 171, 54, 4, 42, 8, 27, 21, 4, 182, 0, 214, 45, 28, 181, 0, 171, 21, 4, 172]
abbrev dktX1_start_1 : List UInt8 := dkwX1_start_1 ++ []
def dkwX1_start_0 : List UInt8 := [42, 27, 182, 0, 166, 78, 28, 3, 17, 1, 44, 184, 0, 134, 154, 0, 9, 42, 4, 182, 0, 218, 172, 45]
abbrev dktX1_start_0 : List UInt8 := dkwX1_start_0 ++ dktX1_start_1
theorem dksX1_start_0 : cX1_start.data.toList.drop 0 = dktX1_start_0 := by decide +kernel
theorem dksX1_start_1 : cX1_start.data.toList.drop 24 = dktX1_start_1 := dk_seg dksX1_start_0 24 rfl rfl
theorem dX1_start_0 : decode cX1_start 0 = .ok (.aload_n 0, 1) := dk_42 (dk_at dksX1_start_0 0 rfl rfl)
theorem dX1_start_1 : decode cX1_start 1 = .ok (.iload_n 1, 1) := dk_27 (dk_at dksX1_start_0 1 rfl rfl)
theorem dX1_start_2 : decode cX1_start 2 = .ok (.invokevirtual 166, 3) := dk_182 0 166 (dk_at dksX1_start_0 2 rfl rfl)
theorem dX1_start_5 : decode cX1_start 5 = .ok (.astore_n 3, 1) := dk_78 (dk_at dksX1_start_0 5 rfl rfl)
theorem dX1_start_6 : decode cX1_start 6 = .ok (.iload_n 2, 1) := dk_28 (dk_at dksX1_start_0 6 rfl rfl)
theorem dX1_start_7 : decode cX1_start 7 = .ok (.iconst 0, 1) := dk_3 (dk_at dksX1_start_0 7 rfl rfl)
theorem dX1_start_8 : decode cX1_start 8 = .ok (.sipush 300, 3) := dk_17 1 44 (dk_at dksX1_start_0 8 rfl rfl)
theorem dX1_start_11 : decode cX1_start 11 = .ok (.invokestatic 134, 3) := dk_184 0 134 (dk_at dksX1_start_0 11 rfl rfl)
theorem dX1_start_14 : decode cX1_start 14 = .ok (.ifCond .ne 9, 3) := dk_154 0 9 (dk_at dksX1_start_0 14 rfl rfl)
theorem dX1_start_17 : decode cX1_start 17 = .ok (.aload_n 0, 1) := dk_42 (dk_at dksX1_start_0 17 rfl rfl)
theorem dX1_start_18 : decode cX1_start 18 = .ok (.iconst 1, 1) := dk_4 (dk_at dksX1_start_0 18 rfl rfl)
theorem dX1_start_19 : decode cX1_start 19 = .ok (.invokevirtual 218, 3) := dk_182 0 218 (dk_at dksX1_start_0 19 rfl rfl)
theorem dX1_start_22 : decode cX1_start 22 = .ok (.ireturn, 1) := dk_172 (dk_at dksX1_start_0 22 rfl rfl)
theorem dX1_start_23 : decode cX1_start 23 = .ok (.aload_n 3, 1) := dk_45 (dk_at dksX1_start_0 23 rfl rfl)
theorem dX1_start_24 : decode cX1_start 24 = .ok (.getfield 171, 3) := dk_180 0 171 (dk_at dksX1_start_1 0 rfl rfl)
theorem dX1_start_27 : decode cX1_start 27 = .ok (.istore 4, 2) := dk_54 4 (dk_at dksX1_start_1 3 rfl rfl)
theorem dX1_start_29 : decode cX1_start 29 = .ok (.aload_n 0, 1) := dk_42 (dk_at dksX1_start_1 5 rfl rfl)
theorem dX1_start_30 : decode cX1_start 30 = .ok (.iconst 5, 1) := dk_8 (dk_at dksX1_start_1 6 rfl rfl)
theorem dX1_start_31 : decode cX1_start 31 = .ok (.iload_n 1, 1) := dk_27 (dk_at dksX1_start_1 7 rfl rfl)
theorem dX1_start_32 : decode cX1_start 32 = .ok (.iload 4, 2) := dk_21 4 (dk_at dksX1_start_1 8 rfl rfl)
theorem dX1_start_34 : decode cX1_start 34 = .ok (.invokevirtual 214, 3) := dk_182 0 214 (dk_at dksX1_start_1 10 rfl rfl)
theorem dX1_start_37 : decode cX1_start 37 = .ok (.aload_n 3, 1) := dk_45 (dk_at dksX1_start_1 13 rfl rfl)
theorem dX1_start_38 : decode cX1_start 38 = .ok (.iload_n 2, 1) := dk_28 (dk_at dksX1_start_1 14 rfl rfl)
theorem dX1_start_39 : decode cX1_start 39 = .ok (.putfield 171, 3) := dk_181 0 171 (dk_at dksX1_start_1 15 rfl rfl)
theorem dX1_start_42 : decode cX1_start 42 = .ok (.iload 4, 2) := dk_21 4 (dk_at dksX1_start_1 18 rfl rfl)
theorem dX1_start_44 : decode cX1_start 44 = .ok (.ireturn, 1) := dk_172 (dk_at dksX1_start_1 20 rfl rfl)
abbrev cX1_home : ByteArray := prog_1_method_32_code
def yX1_home : MethodName := ⟨RX1, "home", "(I)I"⟩
def dkwX1_home_0 : List UInt8 := [42, 27, 182, 0, 199, 77, 42, 182, 0, 128, 44, 182, 0, 221, 184, 0, 225, 172]
abbrev dktX1_home_0 : List UInt8 := dkwX1_home_0 ++ []
theorem dksX1_home_0 : cX1_home.data.toList.drop 0 = dktX1_home_0 := by decide +kernel
theorem dX1_home_0 : decode cX1_home 0 = .ok (.aload_n 0, 1) := dk_42 (dk_at dksX1_home_0 0 rfl rfl)
theorem dX1_home_1 : decode cX1_home 1 = .ok (.iload_n 1, 1) := dk_27 (dk_at dksX1_home_0 1 rfl rfl)
theorem dX1_home_2 : decode cX1_home 2 = .ok (.invokevirtual 199, 3) := dk_182 0 199 (dk_at dksX1_home_0 2 rfl rfl)
theorem dX1_home_5 : decode cX1_home 5 = .ok (.astore_n 2, 1) := dk_77 (dk_at dksX1_home_0 5 rfl rfl)
theorem dX1_home_6 : decode cX1_home 6 = .ok (.aload_n 0, 1) := dk_42 (dk_at dksX1_home_0 6 rfl rfl)
theorem dX1_home_7 : decode cX1_home 7 = .ok (.invokevirtual 128, 3) := dk_182 0 128 (dk_at dksX1_home_0 7 rfl rfl)
theorem dX1_home_10 : decode cX1_home 10 = .ok (.aload_n 2, 1) := dk_44 (dk_at dksX1_home_0 10 rfl rfl)
theorem dX1_home_11 : decode cX1_home 11 = .ok (.invokevirtual 221, 3) := dk_182 0 221 (dk_at dksX1_home_0 11 rfl rfl)
theorem dX1_home_14 : decode cX1_home 14 = .ok (.invokestatic 225, 3) := dk_184 0 225 (dk_at dksX1_home_0 14 rfl rfl)
theorem dX1_home_17 : decode cX1_home 17 = .ok (.ireturn, 1) := dk_172 (dk_at dksX1_home_0 17 rfl rfl)
abbrev cX1_told : ByteArray := prog_1_method_5_code
def yX1_told : MethodName := ⟨RX1, "told", "(I)I"⟩
def dkwX1_told_0 : List UInt8 := [26, 18, 12, 161, 0, 7, 2, 167, 0, 4, 26, 172]
abbrev dktX1_told_0 : List UInt8 := dkwX1_told_0 ++ []
theorem dksX1_told_0 : cX1_told.data.toList.drop 0 = dktX1_told_0 := by decide +kernel
theorem dX1_told_0 : decode cX1_told 0 = .ok (.iload_n 0, 1) := dk_26 (dk_at dksX1_told_0 0 rfl rfl)
theorem dX1_told_1 : decode cX1_told 1 = .ok (.ldc 12, 2) := dk_18 12 (dk_at dksX1_told_0 1 rfl rfl)
theorem dX1_told_3 : decode cX1_told 3 = .ok (.if_icmp .lt 7, 3) := dk_161 0 7 (dk_at dksX1_told_0 3 rfl rfl)
theorem dX1_told_6 : decode cX1_told 6 = .ok (.iconst (-1), 1) := dk_2 (dk_at dksX1_told_0 6 rfl rfl)
theorem dX1_told_7 : decode cX1_told 7 = .ok (.goto 4, 3) := dk_167 0 4 (dk_at dksX1_told_0 7 rfl rfl)
theorem dX1_told_10 : decode cX1_told 10 = .ok (.iload_n 0, 1) := dk_26 (dk_at dksX1_told_0 10 rfl rfl)
theorem dX1_told_11 : decode cX1_told 11 = .ok (.ireturn, 1) := dk_172 (dk_at dksX1_told_0 11 rfl rfl)
abbrev cX1_changes : ByteArray := prog_1_method_33_code
def yX1_changes : MethodName := ⟨RX1, "changes", "(I)I"⟩
def dkwX1_changes_1 : List UInt8 := [167, 0, 10, 3, 29, 4, 100, 184, 0, 231, 172]
abbrev dktX1_changes_1 : List UInt8 := dkwX1_changes_1 ++ []
def dkwX1_changes_0 : List UInt8 := [42, 27, 182, 0, 199, 77, 42, 182, 0, 128, 44, 182, 0, 228, 62, 29, 18, 12, 160, 0, 7, 2]
abbrev dktX1_changes_0 : List UInt8 := dkwX1_changes_0 ++ dktX1_changes_1
theorem dksX1_changes_0 : cX1_changes.data.toList.drop 0 = dktX1_changes_0 := by decide +kernel
theorem dksX1_changes_1 : cX1_changes.data.toList.drop 22 = dktX1_changes_1 := dk_seg dksX1_changes_0 22 rfl rfl
theorem dX1_changes_0 : decode cX1_changes 0 = .ok (.aload_n 0, 1) := dk_42 (dk_at dksX1_changes_0 0 rfl rfl)
theorem dX1_changes_1 : decode cX1_changes 1 = .ok (.iload_n 1, 1) := dk_27 (dk_at dksX1_changes_0 1 rfl rfl)
theorem dX1_changes_2 : decode cX1_changes 2 = .ok (.invokevirtual 199, 3) := dk_182 0 199 (dk_at dksX1_changes_0 2 rfl rfl)
theorem dX1_changes_5 : decode cX1_changes 5 = .ok (.astore_n 2, 1) := dk_77 (dk_at dksX1_changes_0 5 rfl rfl)
theorem dX1_changes_6 : decode cX1_changes 6 = .ok (.aload_n 0, 1) := dk_42 (dk_at dksX1_changes_0 6 rfl rfl)
theorem dX1_changes_7 : decode cX1_changes 7 = .ok (.invokevirtual 128, 3) := dk_182 0 128 (dk_at dksX1_changes_0 7 rfl rfl)
theorem dX1_changes_10 : decode cX1_changes 10 = .ok (.aload_n 2, 1) := dk_44 (dk_at dksX1_changes_0 10 rfl rfl)
theorem dX1_changes_11 : decode cX1_changes 11 = .ok (.invokevirtual 228, 3) := dk_182 0 228 (dk_at dksX1_changes_0 11 rfl rfl)
theorem dX1_changes_14 : decode cX1_changes 14 = .ok (.istore_n 3, 1) := dk_62 (dk_at dksX1_changes_0 14 rfl rfl)
theorem dX1_changes_15 : decode cX1_changes 15 = .ok (.iload_n 3, 1) := dk_29 (dk_at dksX1_changes_0 15 rfl rfl)
theorem dX1_changes_16 : decode cX1_changes 16 = .ok (.ldc 12, 2) := dk_18 12 (dk_at dksX1_changes_0 16 rfl rfl)
theorem dX1_changes_18 : decode cX1_changes 18 = .ok (.if_icmp .ne 7, 3) := dk_160 0 7 (dk_at dksX1_changes_0 18 rfl rfl)
theorem dX1_changes_21 : decode cX1_changes 21 = .ok (.iconst (-1), 1) := dk_2 (dk_at dksX1_changes_0 21 rfl rfl)
theorem dX1_changes_22 : decode cX1_changes 22 = .ok (.goto 10, 3) := dk_167 0 10 (dk_at dksX1_changes_1 0 rfl rfl)
theorem dX1_changes_25 : decode cX1_changes 25 = .ok (.iconst 0, 1) := dk_3 (dk_at dksX1_changes_1 3 rfl rfl)
theorem dX1_changes_26 : decode cX1_changes 26 = .ok (.iload_n 3, 1) := dk_29 (dk_at dksX1_changes_1 4 rfl rfl)
theorem dX1_changes_27 : decode cX1_changes 27 = .ok (.iconst 1, 1) := dk_4 (dk_at dksX1_changes_1 5 rfl rfl)
theorem dX1_changes_28 : decode cX1_changes 28 = .ok (.isub, 1) := dk_100 (dk_at dksX1_changes_1 6 rfl rfl)
theorem dX1_changes_29 : decode cX1_changes 29 = .ok (.invokestatic 231, 3) := dk_184 0 231 (dk_at dksX1_changes_1 7 rfl rfl)
theorem dX1_changes_32 : decode cX1_changes 32 = .ok (.ireturn, 1) := dk_172 (dk_at dksX1_changes_1 10 rfl rfl)
abbrev cX1_cheapest : ByteArray := prog_1_method_34_code
def yX1_cheapest : MethodName := ⟨RX1, "cheapest", "(I)I"⟩
def dkwX1_cheapest_0 : List UInt8 := [42, 27, 182, 0, 199, 77, 42, 182, 0, 128, 44, 182, 0, 236, 184, 0, 225, 172]
abbrev dktX1_cheapest_0 : List UInt8 := dkwX1_cheapest_0 ++ []
theorem dksX1_cheapest_0 : cX1_cheapest.data.toList.drop 0 = dktX1_cheapest_0 := by decide +kernel
theorem dX1_cheapest_0 : decode cX1_cheapest 0 = .ok (.aload_n 0, 1) := dk_42 (dk_at dksX1_cheapest_0 0 rfl rfl)
theorem dX1_cheapest_1 : decode cX1_cheapest 1 = .ok (.iload_n 1, 1) := dk_27 (dk_at dksX1_cheapest_0 1 rfl rfl)
theorem dX1_cheapest_2 : decode cX1_cheapest 2 = .ok (.invokevirtual 199, 3) := dk_182 0 199 (dk_at dksX1_cheapest_0 2 rfl rfl)
theorem dX1_cheapest_5 : decode cX1_cheapest 5 = .ok (.astore_n 2, 1) := dk_77 (dk_at dksX1_cheapest_0 5 rfl rfl)
theorem dX1_cheapest_6 : decode cX1_cheapest 6 = .ok (.aload_n 0, 1) := dk_42 (dk_at dksX1_cheapest_0 6 rfl rfl)
theorem dX1_cheapest_7 : decode cX1_cheapest 7 = .ok (.invokevirtual 128, 3) := dk_182 0 128 (dk_at dksX1_cheapest_0 7 rfl rfl)
theorem dX1_cheapest_10 : decode cX1_cheapest 10 = .ok (.aload_n 2, 1) := dk_44 (dk_at dksX1_cheapest_0 10 rfl rfl)
theorem dX1_cheapest_11 : decode cX1_cheapest 11 = .ok (.invokevirtual 236, 3) := dk_182 0 236 (dk_at dksX1_cheapest_0 11 rfl rfl)
theorem dX1_cheapest_14 : decode cX1_cheapest 14 = .ok (.invokestatic 225, 3) := dk_184 0 225 (dk_at dksX1_cheapest_0 14 rfl rfl)
theorem dX1_cheapest_17 : decode cX1_cheapest 17 = .ok (.ireturn, 1) := dk_172 (dk_at dksX1_cheapest_0 17 rfl rfl)
abbrev cX1_last : ByteArray := prog_1_method_35_code
def yX1_last : MethodName := ⟨RX1, "last", "(I)I"⟩
def dkwX1_last_0 : List UInt8 := [42, 27, 182, 0, 199, 77, 42, 182, 0, 128, 44, 182, 0, 239, 172]
abbrev dktX1_last_0 : List UInt8 := dkwX1_last_0 ++ []
theorem dksX1_last_0 : cX1_last.data.toList.drop 0 = dktX1_last_0 := by decide +kernel
theorem dX1_last_0 : decode cX1_last 0 = .ok (.aload_n 0, 1) := dk_42 (dk_at dksX1_last_0 0 rfl rfl)
theorem dX1_last_1 : decode cX1_last 1 = .ok (.iload_n 1, 1) := dk_27 (dk_at dksX1_last_0 1 rfl rfl)
theorem dX1_last_2 : decode cX1_last 2 = .ok (.invokevirtual 199, 3) := dk_182 0 199 (dk_at dksX1_last_0 2 rfl rfl)
theorem dX1_last_5 : decode cX1_last 5 = .ok (.astore_n 2, 1) := dk_77 (dk_at dksX1_last_0 5 rfl rfl)
theorem dX1_last_6 : decode cX1_last 6 = .ok (.aload_n 0, 1) := dk_42 (dk_at dksX1_last_0 6 rfl rfl)
theorem dX1_last_7 : decode cX1_last 7 = .ok (.invokevirtual 128, 3) := dk_182 0 128 (dk_at dksX1_last_0 7 rfl rfl)
theorem dX1_last_10 : decode cX1_last 10 = .ok (.aload_n 2, 1) := dk_44 (dk_at dksX1_last_0 10 rfl rfl)
theorem dX1_last_11 : decode cX1_last 11 = .ok (.invokevirtual 239, 3) := dk_182 0 239 (dk_at dksX1_last_0 11 rfl rfl)
theorem dX1_last_14 : decode cX1_last 14 = .ok (.ireturn, 1) := dk_172 (dk_at dksX1_last_0 14 rfl rfl)
abbrev cX1_lure : ByteArray := prog_1_method_39_code
def yX1_lure : MethodName := ⟨RX1, "lure", "(II)I"⟩
def dkwX1_lure_3 : List UInt8 := [180, 0, 249, 181, 0, 94, 21, 4, 172, 132, 4, 1, 167, 255, 220, 2, 172]
abbrev dktX1_lure_3 : List UInt8 := dkwX1_lure_3 ++ []
def dkwX1_lure_2 : List UInt8 := [21, 4, 6, 163, 0, 36, 42, 45, 27, 28, 3, 21, 4, 182, 0, 252, 154, 0, 6, 167, 0, 14, 42, 45]
abbrev dktX1_lure_2 : List UInt8 := dkwX1_lure_2 ++ dktX1_lure_3
def dkwX1_lure_1 : List UInt8 := [28, 155, 0, 7, 4, 167, 0, 4, 3, 184, 0, 54, 187, 0, 100, 89, 42, 183, 0, 102, 78, 3, 54, 4]
abbrev dktX1_lure_1 : List UInt8 := dkwX1_lure_1 ++ dktX1_lure_2
def dkwX1_lure_0 : List UInt8 := [27, 3, 4, 42, 180, 0, 19, 180, 0, 122, 185, 0, 118, 1, 0, 120, 4, 100, 184, 0, 134, 153, 0, 11]
abbrev dktX1_lure_0 : List UInt8 := dkwX1_lure_0 ++ dktX1_lure_1
theorem dksX1_lure_0 : cX1_lure.data.toList.drop 0 = dktX1_lure_0 := by decide +kernel
theorem dksX1_lure_1 : cX1_lure.data.toList.drop 24 = dktX1_lure_1 := dk_seg dksX1_lure_0 24 rfl rfl
theorem dksX1_lure_2 : cX1_lure.data.toList.drop 48 = dktX1_lure_2 := dk_seg dksX1_lure_1 24 rfl rfl
theorem dksX1_lure_3 : cX1_lure.data.toList.drop 72 = dktX1_lure_3 := dk_seg dksX1_lure_2 24 rfl rfl
theorem dX1_lure_0 : decode cX1_lure 0 = .ok (.iload_n 1, 1) := dk_27 (dk_at dksX1_lure_0 0 rfl rfl)
theorem dX1_lure_1 : decode cX1_lure 1 = .ok (.iconst 0, 1) := dk_3 (dk_at dksX1_lure_0 1 rfl rfl)
theorem dX1_lure_2 : decode cX1_lure 2 = .ok (.iconst 1, 1) := dk_4 (dk_at dksX1_lure_0 2 rfl rfl)
theorem dX1_lure_3 : decode cX1_lure 3 = .ok (.aload_n 0, 1) := dk_42 (dk_at dksX1_lure_0 3 rfl rfl)
theorem dX1_lure_4 : decode cX1_lure 4 = .ok (.getfield 19, 3) := dk_180 0 19 (dk_at dksX1_lure_0 4 rfl rfl)
theorem dX1_lure_7 : decode cX1_lure 7 = .ok (.getfield 122, 3) := dk_180 0 122 (dk_at dksX1_lure_0 7 rfl rfl)
theorem dX1_lure_10 : decode cX1_lure 10 = .ok (.invokeinterface 118 1, 5) := by decide +kernel
theorem dX1_lure_15 : decode cX1_lure 15 = .ok (.ishl, 1) := dk_120 (dk_at dksX1_lure_0 15 rfl rfl)
theorem dX1_lure_16 : decode cX1_lure 16 = .ok (.iconst 1, 1) := dk_4 (dk_at dksX1_lure_0 16 rfl rfl)
theorem dX1_lure_17 : decode cX1_lure 17 = .ok (.isub, 1) := dk_100 (dk_at dksX1_lure_0 17 rfl rfl)
theorem dX1_lure_18 : decode cX1_lure 18 = .ok (.invokestatic 134, 3) := dk_184 0 134 (dk_at dksX1_lure_0 18 rfl rfl)
theorem dX1_lure_21 : decode cX1_lure 21 = .ok (.ifCond .eq 11, 3) := dk_153 0 11 (dk_at dksX1_lure_0 21 rfl rfl)
theorem dX1_lure_24 : decode cX1_lure 24 = .ok (.iload_n 2, 1) := dk_28 (dk_at dksX1_lure_1 0 rfl rfl)
theorem dX1_lure_25 : decode cX1_lure 25 = .ok (.ifCond .lt 7, 3) := dk_155 0 7 (dk_at dksX1_lure_1 1 rfl rfl)
theorem dX1_lure_28 : decode cX1_lure 28 = .ok (.iconst 1, 1) := dk_4 (dk_at dksX1_lure_1 4 rfl rfl)
theorem dX1_lure_29 : decode cX1_lure 29 = .ok (.goto 4, 3) := dk_167 0 4 (dk_at dksX1_lure_1 5 rfl rfl)
theorem dX1_lure_32 : decode cX1_lure 32 = .ok (.iconst 0, 1) := dk_3 (dk_at dksX1_lure_1 8 rfl rfl)
theorem dX1_lure_33 : decode cX1_lure 33 = .ok (.invokestatic 54, 3) := dk_184 0 54 (dk_at dksX1_lure_1 9 rfl rfl)
theorem dX1_lure_36 : decode cX1_lure 36 = .ok (.new 100, 3) := dk_187 0 100 (dk_at dksX1_lure_1 12 rfl rfl)
theorem dX1_lure_39 : decode cX1_lure 39 = .ok (.dup, 1) := dk_89 (dk_at dksX1_lure_1 15 rfl rfl)
theorem dX1_lure_40 : decode cX1_lure 40 = .ok (.aload_n 0, 1) := dk_42 (dk_at dksX1_lure_1 16 rfl rfl)
theorem dX1_lure_41 : decode cX1_lure 41 = .ok (.invokespecial 102, 3) := dk_183 0 102 (dk_at dksX1_lure_1 17 rfl rfl)
theorem dX1_lure_44 : decode cX1_lure 44 = .ok (.astore_n 3, 1) := dk_78 (dk_at dksX1_lure_1 20 rfl rfl)
theorem dX1_lure_45 : decode cX1_lure 45 = .ok (.iconst 0, 1) := dk_3 (dk_at dksX1_lure_1 21 rfl rfl)
theorem dX1_lure_46 : decode cX1_lure 46 = .ok (.istore 4, 2) := dk_54 4 (dk_at dksX1_lure_1 22 rfl rfl)
theorem dX1_lure_48 : decode cX1_lure 48 = .ok (.iload 4, 2) := dk_21 4 (dk_at dksX1_lure_2 0 rfl rfl)
theorem dX1_lure_50 : decode cX1_lure 50 = .ok (.iconst 3, 1) := dk_6 (dk_at dksX1_lure_2 2 rfl rfl)
theorem dX1_lure_51 : decode cX1_lure 51 = .ok (.if_icmp .gt 36, 3) := dk_163 0 36 (dk_at dksX1_lure_2 3 rfl rfl)
theorem dX1_lure_54 : decode cX1_lure 54 = .ok (.aload_n 0, 1) := dk_42 (dk_at dksX1_lure_2 6 rfl rfl)
theorem dX1_lure_55 : decode cX1_lure 55 = .ok (.aload_n 3, 1) := dk_45 (dk_at dksX1_lure_2 7 rfl rfl)
theorem dX1_lure_56 : decode cX1_lure 56 = .ok (.iload_n 1, 1) := dk_27 (dk_at dksX1_lure_2 8 rfl rfl)
theorem dX1_lure_57 : decode cX1_lure 57 = .ok (.iload_n 2, 1) := dk_28 (dk_at dksX1_lure_2 9 rfl rfl)
theorem dX1_lure_58 : decode cX1_lure 58 = .ok (.iconst 0, 1) := dk_3 (dk_at dksX1_lure_2 10 rfl rfl)
theorem dX1_lure_59 : decode cX1_lure 59 = .ok (.iload 4, 2) := dk_21 4 (dk_at dksX1_lure_2 11 rfl rfl)
theorem dX1_lure_61 : decode cX1_lure 61 = .ok (.invokevirtual 252, 3) := dk_182 0 252 (dk_at dksX1_lure_2 13 rfl rfl)
theorem dX1_lure_64 : decode cX1_lure 64 = .ok (.ifCond .ne 6, 3) := dk_154 0 6 (dk_at dksX1_lure_2 16 rfl rfl)
theorem dX1_lure_67 : decode cX1_lure 67 = .ok (.goto 14, 3) := dk_167 0 14 (dk_at dksX1_lure_2 19 rfl rfl)
theorem dX1_lure_70 : decode cX1_lure 70 = .ok (.aload_n 0, 1) := dk_42 (dk_at dksX1_lure_2 22 rfl rfl)
theorem dX1_lure_71 : decode cX1_lure 71 = .ok (.aload_n 3, 1) := dk_45 (dk_at dksX1_lure_2 23 rfl rfl)
theorem dX1_lure_72 : decode cX1_lure 72 = .ok (.getfield 249, 3) := dk_180 0 249 (dk_at dksX1_lure_3 0 rfl rfl)
theorem dX1_lure_75 : decode cX1_lure 75 = .ok (.putfield 94, 3) := dk_181 0 94 (dk_at dksX1_lure_3 3 rfl rfl)
theorem dX1_lure_78 : decode cX1_lure 78 = .ok (.iload 4, 2) := dk_21 4 (dk_at dksX1_lure_3 6 rfl rfl)
theorem dX1_lure_80 : decode cX1_lure 80 = .ok (.ireturn, 1) := dk_172 (dk_at dksX1_lure_3 8 rfl rfl)
theorem dX1_lure_81 : decode cX1_lure 81 = .ok (.iinc 4 1, 3) := dk_132 4 1 (dk_at dksX1_lure_3 9 rfl rfl)
theorem dX1_lure_84 : decode cX1_lure 84 = .ok (.goto (-36), 3) := dk_167 255 220 (dk_at dksX1_lure_3 12 rfl rfl)
theorem dX1_lure_87 : decode cX1_lure 87 = .ok (.iconst (-1), 1) := dk_2 (dk_at dksX1_lure_3 15 rfl rfl)
theorem dX1_lure_88 : decode cX1_lure 88 = .ok (.ireturn, 1) := dk_172 (dk_at dksX1_lure_3 16 rfl rfl)
abbrev cX1_lures : ByteArray := prog_1_method_38_code
def yX1_lures : MethodName := ⟨RX1, "lures", "(LWingTrams$Night;IIII)Z"⟩
def dkwX1_lures_4 : List UInt8 := [167, 255, 200, 43, 180, 0, 249, 21, 4, 3, 79, 3, 172]
abbrev dktX1_lures_4 : List UInt8 := dkwX1_lures_4 ++ []
def dkwX1_lures_3 : List UInt8 := [28, 29, 21, 4, 4, 96, 21, 5, 21, 6, 100, 182, 0, 252, 153, 0, 5, 4, 172, 132, 6, 1]
abbrev dktX1_lures_3 : List UInt8 := dkwX1_lures_3 ++ dktX1_lures_4
def dkwX1_lures_2 : List UInt8 := [180, 0, 156, 21, 4, 46, 100, 184, 0, 242, 163, 0, 39, 43, 180, 0, 249, 21, 4, 21, 6, 79, 42, 43]
abbrev dktX1_lures_2 : List UInt8 := dkwX1_lures_2 ++ dktX1_lures_3
def dkwX1_lures_1 : List UInt8 := [153, 0, 7, 4, 167, 0, 4, 3, 172, 3, 54, 6, 21, 6, 21, 5, 16, 9, 42, 180, 0, 19]
abbrev dktX1_lures_1 : List UInt8 := dkwX1_lures_1 ++ dktX1_lures_2
def dkwX1_lures_0 : List UInt8 := [21, 4, 42, 180, 0, 19, 180, 0, 109, 160, 0, 24, 21, 5, 154, 0, 17, 42, 43, 28, 29, 182, 0, 245]
abbrev dktX1_lures_0 : List UInt8 := dkwX1_lures_0 ++ dktX1_lures_1
theorem dksX1_lures_0 : cX1_lures.data.toList.drop 0 = dktX1_lures_0 := by decide +kernel
theorem dksX1_lures_1 : cX1_lures.data.toList.drop 24 = dktX1_lures_1 := dk_seg dksX1_lures_0 24 rfl rfl
theorem dksX1_lures_2 : cX1_lures.data.toList.drop 46 = dktX1_lures_2 := dk_seg dksX1_lures_1 22 rfl rfl
theorem dksX1_lures_3 : cX1_lures.data.toList.drop 70 = dktX1_lures_3 := dk_seg dksX1_lures_2 24 rfl rfl
theorem dksX1_lures_4 : cX1_lures.data.toList.drop 92 = dktX1_lures_4 := dk_seg dksX1_lures_3 22 rfl rfl
theorem dX1_lures_0 : decode cX1_lures 0 = .ok (.iload 4, 2) := dk_21 4 (dk_at dksX1_lures_0 0 rfl rfl)
theorem dX1_lures_2 : decode cX1_lures 2 = .ok (.aload_n 0, 1) := dk_42 (dk_at dksX1_lures_0 2 rfl rfl)
theorem dX1_lures_3 : decode cX1_lures 3 = .ok (.getfield 19, 3) := dk_180 0 19 (dk_at dksX1_lures_0 3 rfl rfl)
theorem dX1_lures_6 : decode cX1_lures 6 = .ok (.getfield 109, 3) := dk_180 0 109 (dk_at dksX1_lures_0 6 rfl rfl)
theorem dX1_lures_9 : decode cX1_lures 9 = .ok (.if_icmp .ne 24, 3) := dk_160 0 24 (dk_at dksX1_lures_0 9 rfl rfl)
theorem dX1_lures_12 : decode cX1_lures 12 = .ok (.iload 5, 2) := dk_21 5 (dk_at dksX1_lures_0 12 rfl rfl)
theorem dX1_lures_14 : decode cX1_lures 14 = .ok (.ifCond .ne 17, 3) := dk_154 0 17 (dk_at dksX1_lures_0 14 rfl rfl)
theorem dX1_lures_17 : decode cX1_lures 17 = .ok (.aload_n 0, 1) := dk_42 (dk_at dksX1_lures_0 17 rfl rfl)
theorem dX1_lures_18 : decode cX1_lures 18 = .ok (.aload_n 1, 1) := dk_43 (dk_at dksX1_lures_0 18 rfl rfl)
theorem dX1_lures_19 : decode cX1_lures 19 = .ok (.iload_n 2, 1) := dk_28 (dk_at dksX1_lures_0 19 rfl rfl)
theorem dX1_lures_20 : decode cX1_lures 20 = .ok (.iload_n 3, 1) := dk_29 (dk_at dksX1_lures_0 20 rfl rfl)
theorem dX1_lures_21 : decode cX1_lures 21 = .ok (.invokevirtual 245, 3) := dk_182 0 245 (dk_at dksX1_lures_0 21 rfl rfl)
theorem dX1_lures_24 : decode cX1_lures 24 = .ok (.ifCond .eq 7, 3) := dk_153 0 7 (dk_at dksX1_lures_1 0 rfl rfl)
theorem dX1_lures_27 : decode cX1_lures 27 = .ok (.iconst 1, 1) := dk_4 (dk_at dksX1_lures_1 3 rfl rfl)
theorem dX1_lures_28 : decode cX1_lures 28 = .ok (.goto 4, 3) := dk_167 0 4 (dk_at dksX1_lures_1 4 rfl rfl)
theorem dX1_lures_31 : decode cX1_lures 31 = .ok (.iconst 0, 1) := dk_3 (dk_at dksX1_lures_1 7 rfl rfl)
theorem dX1_lures_32 : decode cX1_lures 32 = .ok (.ireturn, 1) := dk_172 (dk_at dksX1_lures_1 8 rfl rfl)
theorem dX1_lures_33 : decode cX1_lures 33 = .ok (.iconst 0, 1) := dk_3 (dk_at dksX1_lures_1 9 rfl rfl)
theorem dX1_lures_34 : decode cX1_lures 34 = .ok (.istore 6, 2) := dk_54 6 (dk_at dksX1_lures_1 10 rfl rfl)
theorem dX1_lures_36 : decode cX1_lures 36 = .ok (.iload 6, 2) := dk_21 6 (dk_at dksX1_lures_1 12 rfl rfl)
theorem dX1_lures_38 : decode cX1_lures 38 = .ok (.iload 5, 2) := dk_21 5 (dk_at dksX1_lures_1 14 rfl rfl)
theorem dX1_lures_40 : decode cX1_lures 40 = .ok (.bipush 9, 2) := dk_16 9 (dk_at dksX1_lures_1 16 rfl rfl)
theorem dX1_lures_42 : decode cX1_lures 42 = .ok (.aload_n 0, 1) := dk_42 (dk_at dksX1_lures_1 18 rfl rfl)
theorem dX1_lures_43 : decode cX1_lures 43 = .ok (.getfield 19, 3) := dk_180 0 19 (dk_at dksX1_lures_1 19 rfl rfl)
theorem dX1_lures_46 : decode cX1_lures 46 = .ok (.getfield 156, 3) := dk_180 0 156 (dk_at dksX1_lures_2 0 rfl rfl)
theorem dX1_lures_49 : decode cX1_lures 49 = .ok (.iload 4, 2) := dk_21 4 (dk_at dksX1_lures_2 3 rfl rfl)
theorem dX1_lures_51 : decode cX1_lures 51 = .ok (.iaload, 1) := dk_46 (dk_at dksX1_lures_2 5 rfl rfl)
theorem dX1_lures_52 : decode cX1_lures 52 = .ok (.isub, 1) := dk_100 (dk_at dksX1_lures_2 6 rfl rfl)
theorem dX1_lures_53 : decode cX1_lures 53 = .ok (.invokestatic 242, 3) := dk_184 0 242 (dk_at dksX1_lures_2 7 rfl rfl)
theorem dX1_lures_56 : decode cX1_lures 56 = .ok (.if_icmp .gt 39, 3) := dk_163 0 39 (dk_at dksX1_lures_2 10 rfl rfl)
theorem dX1_lures_59 : decode cX1_lures 59 = .ok (.aload_n 1, 1) := dk_43 (dk_at dksX1_lures_2 13 rfl rfl)
theorem dX1_lures_60 : decode cX1_lures 60 = .ok (.getfield 249, 3) := dk_180 0 249 (dk_at dksX1_lures_2 14 rfl rfl)
theorem dX1_lures_63 : decode cX1_lures 63 = .ok (.iload 4, 2) := dk_21 4 (dk_at dksX1_lures_2 17 rfl rfl)
theorem dX1_lures_65 : decode cX1_lures 65 = .ok (.iload 6, 2) := dk_21 6 (dk_at dksX1_lures_2 19 rfl rfl)
theorem dX1_lures_67 : decode cX1_lures 67 = .ok (.iastore, 1) := dk_79 (dk_at dksX1_lures_2 21 rfl rfl)
theorem dX1_lures_68 : decode cX1_lures 68 = .ok (.aload_n 0, 1) := dk_42 (dk_at dksX1_lures_2 22 rfl rfl)
theorem dX1_lures_69 : decode cX1_lures 69 = .ok (.aload_n 1, 1) := dk_43 (dk_at dksX1_lures_2 23 rfl rfl)
theorem dX1_lures_70 : decode cX1_lures 70 = .ok (.iload_n 2, 1) := dk_28 (dk_at dksX1_lures_3 0 rfl rfl)
theorem dX1_lures_71 : decode cX1_lures 71 = .ok (.iload_n 3, 1) := dk_29 (dk_at dksX1_lures_3 1 rfl rfl)
theorem dX1_lures_72 : decode cX1_lures 72 = .ok (.iload 4, 2) := dk_21 4 (dk_at dksX1_lures_3 2 rfl rfl)
theorem dX1_lures_74 : decode cX1_lures 74 = .ok (.iconst 1, 1) := dk_4 (dk_at dksX1_lures_3 4 rfl rfl)
theorem dX1_lures_75 : decode cX1_lures 75 = .ok (.iadd, 1) := dk_96 (dk_at dksX1_lures_3 5 rfl rfl)
theorem dX1_lures_76 : decode cX1_lures 76 = .ok (.iload 5, 2) := dk_21 5 (dk_at dksX1_lures_3 6 rfl rfl)
theorem dX1_lures_78 : decode cX1_lures 78 = .ok (.iload 6, 2) := dk_21 6 (dk_at dksX1_lures_3 8 rfl rfl)
theorem dX1_lures_80 : decode cX1_lures 80 = .ok (.isub, 1) := dk_100 (dk_at dksX1_lures_3 10 rfl rfl)
theorem dX1_lures_81 : decode cX1_lures 81 = .ok (.invokevirtual 252, 3) := dk_182 0 252 (dk_at dksX1_lures_3 11 rfl rfl)
theorem dX1_lures_84 : decode cX1_lures 84 = .ok (.ifCond .eq 5, 3) := dk_153 0 5 (dk_at dksX1_lures_3 14 rfl rfl)
theorem dX1_lures_87 : decode cX1_lures 87 = .ok (.iconst 1, 1) := dk_4 (dk_at dksX1_lures_3 17 rfl rfl)
theorem dX1_lures_88 : decode cX1_lures 88 = .ok (.ireturn, 1) := dk_172 (dk_at dksX1_lures_3 18 rfl rfl)
theorem dX1_lures_89 : decode cX1_lures 89 = .ok (.iinc 6 1, 3) := dk_132 6 1 (dk_at dksX1_lures_3 19 rfl rfl)
theorem dX1_lures_92 : decode cX1_lures 92 = .ok (.goto (-56), 3) := dk_167 255 200 (dk_at dksX1_lures_4 0 rfl rfl)
theorem dX1_lures_95 : decode cX1_lures 95 = .ok (.aload_n 1, 1) := dk_43 (dk_at dksX1_lures_4 3 rfl rfl)
theorem dX1_lures_96 : decode cX1_lures 96 = .ok (.getfield 249, 3) := dk_180 0 249 (dk_at dksX1_lures_4 4 rfl rfl)
theorem dX1_lures_99 : decode cX1_lures 99 = .ok (.iload 4, 2) := dk_21 4 (dk_at dksX1_lures_4 7 rfl rfl)
theorem dX1_lures_101 : decode cX1_lures 101 = .ok (.iconst 0, 1) := dk_3 (dk_at dksX1_lures_4 9 rfl rfl)
theorem dX1_lures_102 : decode cX1_lures 102 = .ok (.iastore, 1) := dk_79 (dk_at dksX1_lures_4 10 rfl rfl)
theorem dX1_lures_103 : decode cX1_lures 103 = .ok (.iconst 0, 1) := dk_3 (dk_at dksX1_lures_4 11 rfl rfl)
theorem dX1_lures_104 : decode cX1_lures 104 = .ok (.ireturn, 1) := dk_172 (dk_at dksX1_lures_4 12 rfl rfl)
abbrev cX1_areHome : ByteArray := prog_1_method_37_code
def yX1_areHome : MethodName := ⟨RX1, "areHome", "(LWingTrams$Night;II)Z"⟩
def dkwX1_areHome_3 : List UInt8 := [164, 0, 5, 3, 172, 132, 4, 1, 167, 255, 190, 4, 172]
abbrev dktX1_areHome_3 : List UInt8 := dkwX1_areHome_3 ++ []
def dkwX1_areHome_2 : List UInt8 := [185, 0, 145, 2, 0, 192, 0, 151, 182, 0, 221, 29, 42, 180, 0, 19, 180, 0, 125, 184, 0, 242]
abbrev dktX1_areHome_2 : List UInt8 := dkwX1_areHome_2 ++ dktX1_areHome_3
def dkwX1_areHome_1 : List UInt8 := [162, 0, 55, 28, 21, 4, 184, 0, 178, 153, 0, 40, 43, 42, 180, 0, 19, 180, 0, 122, 21, 4]
abbrev dktX1_areHome_1 : List UInt8 := dkwX1_areHome_1 ++ dktX1_areHome_2
def dkwX1_areHome_0 : List UInt8 := [43, 182, 0, 105, 87, 3, 54, 4, 21, 4, 42, 180, 0, 19, 180, 0, 122, 185, 0, 118, 1, 0]
abbrev dktX1_areHome_0 : List UInt8 := dkwX1_areHome_0 ++ dktX1_areHome_1
theorem dksX1_areHome_0 : cX1_areHome.data.toList.drop 0 = dktX1_areHome_0 := by decide +kernel
theorem dksX1_areHome_1 : cX1_areHome.data.toList.drop 22 = dktX1_areHome_1 := dk_seg dksX1_areHome_0 22 rfl rfl
theorem dksX1_areHome_2 : cX1_areHome.data.toList.drop 44 = dktX1_areHome_2 := dk_seg dksX1_areHome_1 22 rfl rfl
theorem dksX1_areHome_3 : cX1_areHome.data.toList.drop 66 = dktX1_areHome_3 := dk_seg dksX1_areHome_2 22 rfl rfl
theorem dX1_areHome_0 : decode cX1_areHome 0 = .ok (.aload_n 1, 1) := dk_43 (dk_at dksX1_areHome_0 0 rfl rfl)
theorem dX1_areHome_1 : decode cX1_areHome 1 = .ok (.invokevirtual 105, 3) := dk_182 0 105 (dk_at dksX1_areHome_0 1 rfl rfl)
theorem dX1_areHome_4 : decode cX1_areHome 4 = .ok (.pop, 1) := dk_87 (dk_at dksX1_areHome_0 4 rfl rfl)
theorem dX1_areHome_5 : decode cX1_areHome 5 = .ok (.iconst 0, 1) := dk_3 (dk_at dksX1_areHome_0 5 rfl rfl)
theorem dX1_areHome_6 : decode cX1_areHome 6 = .ok (.istore 4, 2) := dk_54 4 (dk_at dksX1_areHome_0 6 rfl rfl)
theorem dX1_areHome_8 : decode cX1_areHome 8 = .ok (.iload 4, 2) := dk_21 4 (dk_at dksX1_areHome_0 8 rfl rfl)
theorem dX1_areHome_10 : decode cX1_areHome 10 = .ok (.aload_n 0, 1) := dk_42 (dk_at dksX1_areHome_0 10 rfl rfl)
theorem dX1_areHome_11 : decode cX1_areHome 11 = .ok (.getfield 19, 3) := dk_180 0 19 (dk_at dksX1_areHome_0 11 rfl rfl)
theorem dX1_areHome_14 : decode cX1_areHome 14 = .ok (.getfield 122, 3) := dk_180 0 122 (dk_at dksX1_areHome_0 14 rfl rfl)
theorem dX1_areHome_17 : decode cX1_areHome 17 = .ok (.invokeinterface 118 1, 5) := by decide +kernel
theorem dX1_areHome_22 : decode cX1_areHome 22 = .ok (.if_icmp .ge 55, 3) := dk_162 0 55 (dk_at dksX1_areHome_1 0 rfl rfl)
theorem dX1_areHome_25 : decode cX1_areHome 25 = .ok (.iload_n 2, 1) := dk_28 (dk_at dksX1_areHome_1 3 rfl rfl)
theorem dX1_areHome_26 : decode cX1_areHome 26 = .ok (.iload 4, 2) := dk_21 4 (dk_at dksX1_areHome_1 4 rfl rfl)
theorem dX1_areHome_28 : decode cX1_areHome 28 = .ok (.invokestatic 178, 3) := dk_184 0 178 (dk_at dksX1_areHome_1 6 rfl rfl)
theorem dX1_areHome_31 : decode cX1_areHome 31 = .ok (.ifCond .eq 40, 3) := dk_153 0 40 (dk_at dksX1_areHome_1 9 rfl rfl)
theorem dX1_areHome_34 : decode cX1_areHome 34 = .ok (.aload_n 1, 1) := dk_43 (dk_at dksX1_areHome_1 12 rfl rfl)
theorem dX1_areHome_35 : decode cX1_areHome 35 = .ok (.aload_n 0, 1) := dk_42 (dk_at dksX1_areHome_1 13 rfl rfl)
theorem dX1_areHome_36 : decode cX1_areHome 36 = .ok (.getfield 19, 3) := dk_180 0 19 (dk_at dksX1_areHome_1 14 rfl rfl)
theorem dX1_areHome_39 : decode cX1_areHome 39 = .ok (.getfield 122, 3) := dk_180 0 122 (dk_at dksX1_areHome_1 17 rfl rfl)
theorem dX1_areHome_42 : decode cX1_areHome 42 = .ok (.iload 4, 2) := dk_21 4 (dk_at dksX1_areHome_1 20 rfl rfl)
theorem dX1_areHome_44 : decode cX1_areHome 44 = .ok (.invokeinterface 145 2, 5) := by decide +kernel
theorem dX1_areHome_49 : decode cX1_areHome 49 = .ok (.checkcast 151, 3) := dk_192 0 151 (dk_at dksX1_areHome_2 5 rfl rfl)
theorem dX1_areHome_52 : decode cX1_areHome 52 = .ok (.invokevirtual 221, 3) := dk_182 0 221 (dk_at dksX1_areHome_2 8 rfl rfl)
theorem dX1_areHome_55 : decode cX1_areHome 55 = .ok (.iload_n 3, 1) := dk_29 (dk_at dksX1_areHome_2 11 rfl rfl)
theorem dX1_areHome_56 : decode cX1_areHome 56 = .ok (.aload_n 0, 1) := dk_42 (dk_at dksX1_areHome_2 12 rfl rfl)
theorem dX1_areHome_57 : decode cX1_areHome 57 = .ok (.getfield 19, 3) := dk_180 0 19 (dk_at dksX1_areHome_2 13 rfl rfl)
theorem dX1_areHome_60 : decode cX1_areHome 60 = .ok (.getfield 125, 3) := dk_180 0 125 (dk_at dksX1_areHome_2 16 rfl rfl)
theorem dX1_areHome_63 : decode cX1_areHome 63 = .ok (.invokestatic 242, 3) := dk_184 0 242 (dk_at dksX1_areHome_2 19 rfl rfl)
theorem dX1_areHome_66 : decode cX1_areHome 66 = .ok (.if_icmp .le 5, 3) := dk_164 0 5 (dk_at dksX1_areHome_3 0 rfl rfl)
theorem dX1_areHome_69 : decode cX1_areHome 69 = .ok (.iconst 0, 1) := dk_3 (dk_at dksX1_areHome_3 3 rfl rfl)
theorem dX1_areHome_70 : decode cX1_areHome 70 = .ok (.ireturn, 1) := dk_172 (dk_at dksX1_areHome_3 4 rfl rfl)
theorem dX1_areHome_71 : decode cX1_areHome 71 = .ok (.iinc 4 1, 3) := dk_132 4 1 (dk_at dksX1_areHome_3 5 rfl rfl)
theorem dX1_areHome_74 : decode cX1_areHome 74 = .ok (.goto (-66), 3) := dk_167 255 190 (dk_at dksX1_areHome_3 8 rfl rfl)
theorem dX1_areHome_77 : decode cX1_areHome 77 = .ok (.iconst 1, 1) := dk_4 (dk_at dksX1_areHome_3 11 rfl rfl)
theorem dX1_areHome_78 : decode cX1_areHome 78 = .ok (.ireturn, 1) := dk_172 (dk_at dksX1_areHome_3 12 rfl rfl)
abbrev cX1_more : ByteArray := prog_1_method_40_code
def yX1_more : MethodName := ⟨RX1, "more", "(I)I"⟩
def dkwX1_more_1 : List UInt8 := [27, 46, 172]
abbrev dktX1_more_1 : List UInt8 := dkwX1_more_1 ++ []
def dkwX1_more_0 : List UInt8 := [42, 27, 182, 0, 152, 42, 180, 0, 94, 198, 0, 7, 4, 167, 0, 4, 3, 184, 0, 138, 42, 180, 0, 94]
abbrev dktX1_more_0 : List UInt8 := dkwX1_more_0 ++ dktX1_more_1
theorem dksX1_more_0 : cX1_more.data.toList.drop 0 = dktX1_more_0 := by decide +kernel
theorem dksX1_more_1 : cX1_more.data.toList.drop 24 = dktX1_more_1 := dk_seg dksX1_more_0 24 rfl rfl
theorem dX1_more_0 : decode cX1_more 0 = .ok (.aload_n 0, 1) := dk_42 (dk_at dksX1_more_0 0 rfl rfl)
theorem dX1_more_1 : decode cX1_more 1 = .ok (.iload_n 1, 1) := dk_27 (dk_at dksX1_more_0 1 rfl rfl)
theorem dX1_more_2 : decode cX1_more 2 = .ok (.invokevirtual 152, 3) := dk_182 0 152 (dk_at dksX1_more_0 2 rfl rfl)
theorem dX1_more_5 : decode cX1_more 5 = .ok (.aload_n 0, 1) := dk_42 (dk_at dksX1_more_0 5 rfl rfl)
theorem dX1_more_6 : decode cX1_more 6 = .ok (.getfield 94, 3) := dk_180 0 94 (dk_at dksX1_more_0 6 rfl rfl)
theorem dX1_more_9 : decode cX1_more 9 = .ok (.ifnull 7, 3) := dk_198 0 7 (dk_at dksX1_more_0 9 rfl rfl)
theorem dX1_more_12 : decode cX1_more 12 = .ok (.iconst 1, 1) := dk_4 (dk_at dksX1_more_0 12 rfl rfl)
theorem dX1_more_13 : decode cX1_more 13 = .ok (.goto 4, 3) := dk_167 0 4 (dk_at dksX1_more_0 13 rfl rfl)
theorem dX1_more_16 : decode cX1_more 16 = .ok (.iconst 0, 1) := dk_3 (dk_at dksX1_more_0 16 rfl rfl)
theorem dX1_more_17 : decode cX1_more 17 = .ok (.invokestatic 138, 3) := dk_184 0 138 (dk_at dksX1_more_0 17 rfl rfl)
theorem dX1_more_20 : decode cX1_more 20 = .ok (.aload_n 0, 1) := dk_42 (dk_at dksX1_more_0 20 rfl rfl)
theorem dX1_more_21 : decode cX1_more 21 = .ok (.getfield 94, 3) := dk_180 0 94 (dk_at dksX1_more_0 21 rfl rfl)
theorem dX1_more_24 : decode cX1_more 24 = .ok (.iload_n 1, 1) := dk_27 (dk_at dksX1_more_1 0 rfl rfl)
theorem dX1_more_25 : decode cX1_more 25 = .ok (.iaload, 1) := dk_46 (dk_at dksX1_more_1 1 rfl rfl)
theorem dX1_more_26 : decode cX1_more 26 = .ok (.ireturn, 1) := dk_172 (dk_at dksX1_more_1 2 rfl rfl)
abbrev cX1_beams : ByteArray := prog_1_method_42_code
def yX1_beams : MethodName := ⟨RX1, "beams", "(III)I"⟩
def dkwX1_beams_5 : List UInt8 := [160, 0, 8, 21, 5, 167, 0, 12, 42, 25, 4, 21, 5, 28, 182, 1, 9, 172]
abbrev dktX1_beams_5 : List UInt8 := dkwX1_beams_5 ++ []
def dkwX1_beams_4 : List UInt8 := [182, 1, 9, 164, 0, 7, 21, 6, 54, 5, 132, 6, 1, 167, 255, 199, 29, 4, 159, 0, 9, 21, 5, 2]
abbrev dktX1_beams_4 : List UInt8 := dkwX1_beams_4 ++ dktX1_beams_5
def dkwX1_beams_3 : List UInt8 := [160, 0, 34, 21, 5, 2, 159, 0, 24, 42, 25, 4, 21, 6, 28, 182, 1, 9, 42, 25, 4, 21, 5, 28]
abbrev dktX1_beams_3 : List UInt8 := dkwX1_beams_3 ++ dktX1_beams_4
def dkwX1_beams_2 : List UInt8 := [54, 6, 21, 6, 4, 42, 180, 0, 19, 180, 0, 109, 120, 162, 0, 49, 21, 6, 184, 1, 4, 27]
abbrev dktX1_beams_2 : List UInt8 := dkwX1_beams_2 ++ dktX1_beams_3
def dkwX1_beams_1 : List UInt8 := [153, 0, 7, 4, 167, 0, 4, 3, 184, 0, 54, 42, 180, 0, 19, 182, 1, 0, 58, 4, 2, 54, 5, 3]
abbrev dktX1_beams_1 : List UInt8 := dkwX1_beams_1 ++ dktX1_beams_2
def dkwX1_beams_0 : List UInt8 := [29, 4, 184, 0, 186, 27, 3, 16, 10, 184, 0, 134, 153, 0, 18, 28, 3, 17, 0, 200, 184, 0, 134]
abbrev dktX1_beams_0 : List UInt8 := dkwX1_beams_0 ++ dktX1_beams_1
theorem dksX1_beams_0 : cX1_beams.data.toList.drop 0 = dktX1_beams_0 := by decide +kernel
theorem dksX1_beams_1 : cX1_beams.data.toList.drop 23 = dktX1_beams_1 := dk_seg dksX1_beams_0 23 rfl rfl
theorem dksX1_beams_2 : cX1_beams.data.toList.drop 47 = dktX1_beams_2 := dk_seg dksX1_beams_1 24 rfl rfl
theorem dksX1_beams_3 : cX1_beams.data.toList.drop 69 = dktX1_beams_3 := dk_seg dksX1_beams_2 22 rfl rfl
theorem dksX1_beams_4 : cX1_beams.data.toList.drop 93 = dktX1_beams_4 := dk_seg dksX1_beams_3 24 rfl rfl
theorem dksX1_beams_5 : cX1_beams.data.toList.drop 117 = dktX1_beams_5 := dk_seg dksX1_beams_4 24 rfl rfl
theorem dX1_beams_0 : decode cX1_beams 0 = .ok (.iload_n 3, 1) := dk_29 (dk_at dksX1_beams_0 0 rfl rfl)
theorem dX1_beams_1 : decode cX1_beams 1 = .ok (.iconst 1, 1) := dk_4 (dk_at dksX1_beams_0 1 rfl rfl)
theorem dX1_beams_2 : decode cX1_beams 2 = .ok (.invokestatic 186, 3) := dk_184 0 186 (dk_at dksX1_beams_0 2 rfl rfl)
theorem dX1_beams_5 : decode cX1_beams 5 = .ok (.iload_n 1, 1) := dk_27 (dk_at dksX1_beams_0 5 rfl rfl)
theorem dX1_beams_6 : decode cX1_beams 6 = .ok (.iconst 0, 1) := dk_3 (dk_at dksX1_beams_0 6 rfl rfl)
theorem dX1_beams_7 : decode cX1_beams 7 = .ok (.bipush 10, 2) := dk_16 10 (dk_at dksX1_beams_0 7 rfl rfl)
theorem dX1_beams_9 : decode cX1_beams 9 = .ok (.invokestatic 134, 3) := dk_184 0 134 (dk_at dksX1_beams_0 9 rfl rfl)
theorem dX1_beams_12 : decode cX1_beams 12 = .ok (.ifCond .eq 18, 3) := dk_153 0 18 (dk_at dksX1_beams_0 12 rfl rfl)
theorem dX1_beams_15 : decode cX1_beams 15 = .ok (.iload_n 2, 1) := dk_28 (dk_at dksX1_beams_0 15 rfl rfl)
theorem dX1_beams_16 : decode cX1_beams 16 = .ok (.iconst 0, 1) := dk_3 (dk_at dksX1_beams_0 16 rfl rfl)
theorem dX1_beams_17 : decode cX1_beams 17 = .ok (.sipush 200, 3) := dk_17 0 200 (dk_at dksX1_beams_0 17 rfl rfl)
theorem dX1_beams_20 : decode cX1_beams 20 = .ok (.invokestatic 134, 3) := dk_184 0 134 (dk_at dksX1_beams_0 20 rfl rfl)
theorem dX1_beams_23 : decode cX1_beams 23 = .ok (.ifCond .eq 7, 3) := dk_153 0 7 (dk_at dksX1_beams_1 0 rfl rfl)
theorem dX1_beams_26 : decode cX1_beams 26 = .ok (.iconst 1, 1) := dk_4 (dk_at dksX1_beams_1 3 rfl rfl)
theorem dX1_beams_27 : decode cX1_beams 27 = .ok (.goto 4, 3) := dk_167 0 4 (dk_at dksX1_beams_1 4 rfl rfl)
theorem dX1_beams_30 : decode cX1_beams 30 = .ok (.iconst 0, 1) := dk_3 (dk_at dksX1_beams_1 7 rfl rfl)
theorem dX1_beams_31 : decode cX1_beams 31 = .ok (.invokestatic 54, 3) := dk_184 0 54 (dk_at dksX1_beams_1 8 rfl rfl)
theorem dX1_beams_34 : decode cX1_beams 34 = .ok (.aload_n 0, 1) := dk_42 (dk_at dksX1_beams_1 11 rfl rfl)
theorem dX1_beams_35 : decode cX1_beams 35 = .ok (.getfield 19, 3) := dk_180 0 19 (dk_at dksX1_beams_1 12 rfl rfl)
theorem dX1_beams_38 : decode cX1_beams 38 = .ok (.invokevirtual 256, 3) := dk_182 1 0 (dk_at dksX1_beams_1 15 rfl rfl)
theorem dX1_beams_41 : decode cX1_beams 41 = .ok (.astore 4, 2) := dk_58 4 (dk_at dksX1_beams_1 18 rfl rfl)
theorem dX1_beams_43 : decode cX1_beams 43 = .ok (.iconst (-1), 1) := dk_2 (dk_at dksX1_beams_1 20 rfl rfl)
theorem dX1_beams_44 : decode cX1_beams 44 = .ok (.istore 5, 2) := dk_54 5 (dk_at dksX1_beams_1 21 rfl rfl)
theorem dX1_beams_46 : decode cX1_beams 46 = .ok (.iconst 0, 1) := dk_3 (dk_at dksX1_beams_1 23 rfl rfl)
theorem dX1_beams_47 : decode cX1_beams 47 = .ok (.istore 6, 2) := dk_54 6 (dk_at dksX1_beams_2 0 rfl rfl)
theorem dX1_beams_49 : decode cX1_beams 49 = .ok (.iload 6, 2) := dk_21 6 (dk_at dksX1_beams_2 2 rfl rfl)
theorem dX1_beams_51 : decode cX1_beams 51 = .ok (.iconst 1, 1) := dk_4 (dk_at dksX1_beams_2 4 rfl rfl)
theorem dX1_beams_52 : decode cX1_beams 52 = .ok (.aload_n 0, 1) := dk_42 (dk_at dksX1_beams_2 5 rfl rfl)
theorem dX1_beams_53 : decode cX1_beams 53 = .ok (.getfield 19, 3) := dk_180 0 19 (dk_at dksX1_beams_2 6 rfl rfl)
theorem dX1_beams_56 : decode cX1_beams 56 = .ok (.getfield 109, 3) := dk_180 0 109 (dk_at dksX1_beams_2 9 rfl rfl)
theorem dX1_beams_59 : decode cX1_beams 59 = .ok (.ishl, 1) := dk_120 (dk_at dksX1_beams_2 12 rfl rfl)
theorem dX1_beams_60 : decode cX1_beams 60 = .ok (.if_icmp .ge 49, 3) := dk_162 0 49 (dk_at dksX1_beams_2 13 rfl rfl)
theorem dX1_beams_63 : decode cX1_beams 63 = .ok (.iload 6, 2) := dk_21 6 (dk_at dksX1_beams_2 16 rfl rfl)
theorem dX1_beams_65 : decode cX1_beams 65 = .ok (.invokestatic 260, 3) := dk_184 1 4 (dk_at dksX1_beams_2 18 rfl rfl)
theorem dX1_beams_68 : decode cX1_beams 68 = .ok (.iload_n 1, 1) := dk_27 (dk_at dksX1_beams_2 21 rfl rfl)
theorem dX1_beams_69 : decode cX1_beams 69 = .ok (.if_icmp .ne 34, 3) := dk_160 0 34 (dk_at dksX1_beams_3 0 rfl rfl)
theorem dX1_beams_72 : decode cX1_beams 72 = .ok (.iload 5, 2) := dk_21 5 (dk_at dksX1_beams_3 3 rfl rfl)
theorem dX1_beams_74 : decode cX1_beams 74 = .ok (.iconst (-1), 1) := dk_2 (dk_at dksX1_beams_3 5 rfl rfl)
theorem dX1_beams_75 : decode cX1_beams 75 = .ok (.if_icmp .eq 24, 3) := dk_159 0 24 (dk_at dksX1_beams_3 6 rfl rfl)
theorem dX1_beams_78 : decode cX1_beams 78 = .ok (.aload_n 0, 1) := dk_42 (dk_at dksX1_beams_3 9 rfl rfl)
theorem dX1_beams_79 : decode cX1_beams 79 = .ok (.aload 4, 2) := dk_25 4 (dk_at dksX1_beams_3 10 rfl rfl)
theorem dX1_beams_81 : decode cX1_beams 81 = .ok (.iload 6, 2) := dk_21 6 (dk_at dksX1_beams_3 12 rfl rfl)
theorem dX1_beams_83 : decode cX1_beams 83 = .ok (.iload_n 2, 1) := dk_28 (dk_at dksX1_beams_3 14 rfl rfl)
theorem dX1_beams_84 : decode cX1_beams 84 = .ok (.invokevirtual 265, 3) := dk_182 1 9 (dk_at dksX1_beams_3 15 rfl rfl)
theorem dX1_beams_87 : decode cX1_beams 87 = .ok (.aload_n 0, 1) := dk_42 (dk_at dksX1_beams_3 18 rfl rfl)
theorem dX1_beams_88 : decode cX1_beams 88 = .ok (.aload 4, 2) := dk_25 4 (dk_at dksX1_beams_3 19 rfl rfl)
theorem dX1_beams_90 : decode cX1_beams 90 = .ok (.iload 5, 2) := dk_21 5 (dk_at dksX1_beams_3 21 rfl rfl)
theorem dX1_beams_92 : decode cX1_beams 92 = .ok (.iload_n 2, 1) := dk_28 (dk_at dksX1_beams_3 23 rfl rfl)
theorem dX1_beams_93 : decode cX1_beams 93 = .ok (.invokevirtual 265, 3) := dk_182 1 9 (dk_at dksX1_beams_4 0 rfl rfl)
theorem dX1_beams_96 : decode cX1_beams 96 = .ok (.if_icmp .le 7, 3) := dk_164 0 7 (dk_at dksX1_beams_4 3 rfl rfl)
theorem dX1_beams_99 : decode cX1_beams 99 = .ok (.iload 6, 2) := dk_21 6 (dk_at dksX1_beams_4 6 rfl rfl)
theorem dX1_beams_101 : decode cX1_beams 101 = .ok (.istore 5, 2) := dk_54 5 (dk_at dksX1_beams_4 8 rfl rfl)
theorem dX1_beams_103 : decode cX1_beams 103 = .ok (.iinc 6 1, 3) := dk_132 6 1 (dk_at dksX1_beams_4 10 rfl rfl)
theorem dX1_beams_106 : decode cX1_beams 106 = .ok (.goto (-57), 3) := dk_167 255 199 (dk_at dksX1_beams_4 13 rfl rfl)
theorem dX1_beams_109 : decode cX1_beams 109 = .ok (.iload_n 3, 1) := dk_29 (dk_at dksX1_beams_4 16 rfl rfl)
theorem dX1_beams_110 : decode cX1_beams 110 = .ok (.iconst 1, 1) := dk_4 (dk_at dksX1_beams_4 17 rfl rfl)
theorem dX1_beams_111 : decode cX1_beams 111 = .ok (.if_icmp .eq 9, 3) := dk_159 0 9 (dk_at dksX1_beams_4 18 rfl rfl)
theorem dX1_beams_114 : decode cX1_beams 114 = .ok (.iload 5, 2) := dk_21 5 (dk_at dksX1_beams_4 21 rfl rfl)
theorem dX1_beams_116 : decode cX1_beams 116 = .ok (.iconst (-1), 1) := dk_2 (dk_at dksX1_beams_4 23 rfl rfl)
theorem dX1_beams_117 : decode cX1_beams 117 = .ok (.if_icmp .ne 8, 3) := dk_160 0 8 (dk_at dksX1_beams_5 0 rfl rfl)
theorem dX1_beams_120 : decode cX1_beams 120 = .ok (.iload 5, 2) := dk_21 5 (dk_at dksX1_beams_5 3 rfl rfl)
theorem dX1_beams_122 : decode cX1_beams 122 = .ok (.goto 12, 3) := dk_167 0 12 (dk_at dksX1_beams_5 5 rfl rfl)
theorem dX1_beams_125 : decode cX1_beams 125 = .ok (.aload_n 0, 1) := dk_42 (dk_at dksX1_beams_5 8 rfl rfl)
theorem dX1_beams_126 : decode cX1_beams 126 = .ok (.aload 4, 2) := dk_25 4 (dk_at dksX1_beams_5 9 rfl rfl)
theorem dX1_beams_128 : decode cX1_beams 128 = .ok (.iload 5, 2) := dk_21 5 (dk_at dksX1_beams_5 11 rfl rfl)
theorem dX1_beams_130 : decode cX1_beams 130 = .ok (.iload_n 2, 1) := dk_28 (dk_at dksX1_beams_5 13 rfl rfl)
theorem dX1_beams_131 : decode cX1_beams 131 = .ok (.invokevirtual 265, 3) := dk_182 1 9 (dk_at dksX1_beams_5 14 rfl rfl)
theorem dX1_beams_134 : decode cX1_beams 134 = .ok (.ireturn, 1) := dk_172 (dk_at dksX1_beams_5 17 rfl rfl)
abbrev cX1_near : ByteArray := prog_1_method_41_code
def yX1_near : MethodName := ⟨RX1, "near", "([[III)I"⟩
def dkwX1_near_4 : List UInt8 := [21, 6, 153, 0, 6, 132, 4, 1, 132, 5, 1, 167, 255, 157, 21, 4, 172]
abbrev dktX1_near_4 : List UInt8 := dkwX1_near_4 ++ []
def dkwX1_near_3 : List UInt8 := [192, 0, 151, 4, 46, 46, 29, 163, 0, 7, 4, 167, 0, 4, 3, 128, 54, 6, 132, 7, 1, 167, 255, 194]
abbrev dktX1_near_3 : List UInt8 := dkwX1_near_3 ++ dktX1_near_4
def dkwX1_near_2 : List UInt8 := [184, 0, 178, 153, 0, 35, 43, 21, 7, 50, 42, 180, 0, 19, 180, 0, 122, 21, 5, 185, 0, 145, 2, 0]
abbrev dktX1_near_2 : List UInt8 := dkwX1_near_2 ++ dktX1_near_3
def dkwX1_near_1 : List UInt8 := [54, 6, 3, 54, 7, 21, 7, 42, 180, 0, 19, 180, 0, 109, 162, 0, 56, 21, 6, 28, 21, 7]
abbrev dktX1_near_1 : List UInt8 := dkwX1_near_1 ++ dktX1_near_2
def dkwX1_near_0 : List UInt8 := [3, 54, 4, 3, 54, 5, 21, 5, 42, 180, 0, 19, 180, 0, 122, 185, 0, 118, 1, 0, 162, 0, 88, 3]
abbrev dktX1_near_0 : List UInt8 := dkwX1_near_0 ++ dktX1_near_1
theorem dksX1_near_0 : cX1_near.data.toList.drop 0 = dktX1_near_0 := by decide +kernel
theorem dksX1_near_1 : cX1_near.data.toList.drop 24 = dktX1_near_1 := dk_seg dksX1_near_0 24 rfl rfl
theorem dksX1_near_2 : cX1_near.data.toList.drop 46 = dktX1_near_2 := dk_seg dksX1_near_1 22 rfl rfl
theorem dksX1_near_3 : cX1_near.data.toList.drop 70 = dktX1_near_3 := dk_seg dksX1_near_2 24 rfl rfl
theorem dksX1_near_4 : cX1_near.data.toList.drop 94 = dktX1_near_4 := dk_seg dksX1_near_3 24 rfl rfl
theorem dX1_near_0 : decode cX1_near 0 = .ok (.iconst 0, 1) := dk_3 (dk_at dksX1_near_0 0 rfl rfl)
theorem dX1_near_1 : decode cX1_near 1 = .ok (.istore 4, 2) := dk_54 4 (dk_at dksX1_near_0 1 rfl rfl)
theorem dX1_near_3 : decode cX1_near 3 = .ok (.iconst 0, 1) := dk_3 (dk_at dksX1_near_0 3 rfl rfl)
theorem dX1_near_4 : decode cX1_near 4 = .ok (.istore 5, 2) := dk_54 5 (dk_at dksX1_near_0 4 rfl rfl)
theorem dX1_near_6 : decode cX1_near 6 = .ok (.iload 5, 2) := dk_21 5 (dk_at dksX1_near_0 6 rfl rfl)
theorem dX1_near_8 : decode cX1_near 8 = .ok (.aload_n 0, 1) := dk_42 (dk_at dksX1_near_0 8 rfl rfl)
theorem dX1_near_9 : decode cX1_near 9 = .ok (.getfield 19, 3) := dk_180 0 19 (dk_at dksX1_near_0 9 rfl rfl)
theorem dX1_near_12 : decode cX1_near 12 = .ok (.getfield 122, 3) := dk_180 0 122 (dk_at dksX1_near_0 12 rfl rfl)
theorem dX1_near_15 : decode cX1_near 15 = .ok (.invokeinterface 118 1, 5) := by decide +kernel
theorem dX1_near_20 : decode cX1_near 20 = .ok (.if_icmp .ge 88, 3) := dk_162 0 88 (dk_at dksX1_near_0 20 rfl rfl)
theorem dX1_near_23 : decode cX1_near 23 = .ok (.iconst 0, 1) := dk_3 (dk_at dksX1_near_0 23 rfl rfl)
theorem dX1_near_24 : decode cX1_near 24 = .ok (.istore 6, 2) := dk_54 6 (dk_at dksX1_near_1 0 rfl rfl)
theorem dX1_near_26 : decode cX1_near 26 = .ok (.iconst 0, 1) := dk_3 (dk_at dksX1_near_1 2 rfl rfl)
theorem dX1_near_27 : decode cX1_near 27 = .ok (.istore 7, 2) := dk_54 7 (dk_at dksX1_near_1 3 rfl rfl)
theorem dX1_near_29 : decode cX1_near 29 = .ok (.iload 7, 2) := dk_21 7 (dk_at dksX1_near_1 5 rfl rfl)
theorem dX1_near_31 : decode cX1_near 31 = .ok (.aload_n 0, 1) := dk_42 (dk_at dksX1_near_1 7 rfl rfl)
theorem dX1_near_32 : decode cX1_near 32 = .ok (.getfield 19, 3) := dk_180 0 19 (dk_at dksX1_near_1 8 rfl rfl)
theorem dX1_near_35 : decode cX1_near 35 = .ok (.getfield 109, 3) := dk_180 0 109 (dk_at dksX1_near_1 11 rfl rfl)
theorem dX1_near_38 : decode cX1_near 38 = .ok (.if_icmp .ge 56, 3) := dk_162 0 56 (dk_at dksX1_near_1 14 rfl rfl)
theorem dX1_near_41 : decode cX1_near 41 = .ok (.iload 6, 2) := dk_21 6 (dk_at dksX1_near_1 17 rfl rfl)
theorem dX1_near_43 : decode cX1_near 43 = .ok (.iload_n 2, 1) := dk_28 (dk_at dksX1_near_1 19 rfl rfl)
theorem dX1_near_44 : decode cX1_near 44 = .ok (.iload 7, 2) := dk_21 7 (dk_at dksX1_near_1 20 rfl rfl)
theorem dX1_near_46 : decode cX1_near 46 = .ok (.invokestatic 178, 3) := dk_184 0 178 (dk_at dksX1_near_2 0 rfl rfl)
theorem dX1_near_49 : decode cX1_near 49 = .ok (.ifCond .eq 35, 3) := dk_153 0 35 (dk_at dksX1_near_2 3 rfl rfl)
theorem dX1_near_52 : decode cX1_near 52 = .ok (.aload_n 1, 1) := dk_43 (dk_at dksX1_near_2 6 rfl rfl)
theorem dX1_near_53 : decode cX1_near 53 = .ok (.iload 7, 2) := dk_21 7 (dk_at dksX1_near_2 7 rfl rfl)
theorem dX1_near_55 : decode cX1_near 55 = .ok (.aaload, 1) := dk_50 (dk_at dksX1_near_2 9 rfl rfl)
theorem dX1_near_56 : decode cX1_near 56 = .ok (.aload_n 0, 1) := dk_42 (dk_at dksX1_near_2 10 rfl rfl)
theorem dX1_near_57 : decode cX1_near 57 = .ok (.getfield 19, 3) := dk_180 0 19 (dk_at dksX1_near_2 11 rfl rfl)
theorem dX1_near_60 : decode cX1_near 60 = .ok (.getfield 122, 3) := dk_180 0 122 (dk_at dksX1_near_2 14 rfl rfl)
theorem dX1_near_63 : decode cX1_near 63 = .ok (.iload 5, 2) := dk_21 5 (dk_at dksX1_near_2 17 rfl rfl)
theorem dX1_near_65 : decode cX1_near 65 = .ok (.invokeinterface 145 2, 5) := by decide +kernel
theorem dX1_near_70 : decode cX1_near 70 = .ok (.checkcast 151, 3) := dk_192 0 151 (dk_at dksX1_near_3 0 rfl rfl)
theorem dX1_near_73 : decode cX1_near 73 = .ok (.iconst 1, 1) := dk_4 (dk_at dksX1_near_3 3 rfl rfl)
theorem dX1_near_74 : decode cX1_near 74 = .ok (.iaload, 1) := dk_46 (dk_at dksX1_near_3 4 rfl rfl)
theorem dX1_near_75 : decode cX1_near 75 = .ok (.iaload, 1) := dk_46 (dk_at dksX1_near_3 5 rfl rfl)
theorem dX1_near_76 : decode cX1_near 76 = .ok (.iload_n 3, 1) := dk_29 (dk_at dksX1_near_3 6 rfl rfl)
theorem dX1_near_77 : decode cX1_near 77 = .ok (.if_icmp .gt 7, 3) := dk_163 0 7 (dk_at dksX1_near_3 7 rfl rfl)
theorem dX1_near_80 : decode cX1_near 80 = .ok (.iconst 1, 1) := dk_4 (dk_at dksX1_near_3 10 rfl rfl)
theorem dX1_near_81 : decode cX1_near 81 = .ok (.goto 4, 3) := dk_167 0 4 (dk_at dksX1_near_3 11 rfl rfl)
theorem dX1_near_84 : decode cX1_near 84 = .ok (.iconst 0, 1) := dk_3 (dk_at dksX1_near_3 14 rfl rfl)
theorem dX1_near_85 : decode cX1_near 85 = .ok (.ior, 1) := dk_128 (dk_at dksX1_near_3 15 rfl rfl)
theorem dX1_near_86 : decode cX1_near 86 = .ok (.istore 6, 2) := dk_54 6 (dk_at dksX1_near_3 16 rfl rfl)
theorem dX1_near_88 : decode cX1_near 88 = .ok (.iinc 7 1, 3) := dk_132 7 1 (dk_at dksX1_near_3 18 rfl rfl)
theorem dX1_near_91 : decode cX1_near 91 = .ok (.goto (-62), 3) := dk_167 255 194 (dk_at dksX1_near_3 21 rfl rfl)
theorem dX1_near_94 : decode cX1_near 94 = .ok (.iload 6, 2) := dk_21 6 (dk_at dksX1_near_4 0 rfl rfl)
theorem dX1_near_96 : decode cX1_near 96 = .ok (.ifCond .eq 6, 3) := dk_153 0 6 (dk_at dksX1_near_4 2 rfl rfl)
theorem dX1_near_99 : decode cX1_near 99 = .ok (.iinc 4 1, 3) := dk_132 4 1 (dk_at dksX1_near_4 5 rfl rfl)
theorem dX1_near_102 : decode cX1_near 102 = .ok (.iinc 5 1, 3) := dk_132 5 1 (dk_at dksX1_near_4 8 rfl rfl)
theorem dX1_near_105 : decode cX1_near 105 = .ok (.goto (-99), 3) := dk_167 255 157 (dk_at dksX1_near_4 11 rfl rfl)
theorem dX1_near_108 : decode cX1_near 108 = .ok (.iload 4, 2) := dk_21 4 (dk_at dksX1_near_4 14 rfl rfl)
theorem dX1_near_110 : decode cX1_near 110 = .ok (.ireturn, 1) := dk_172 (dk_at dksX1_near_4 16 rfl rfl)
abbrev cX1_straps : ByteArray := prog_1_method_43_code
def yX1_straps : MethodName := ⟨RX1, "straps", "(I)I"⟩
def dkwX1_straps_3 : List UInt8 := [132, 4, 1, 167, 255, 209, 29, 172]
abbrev dktX1_straps_3 : List UInt8 := dkwX1_straps_3 ++ []
def dkwX1_straps_2 : List UInt8 := [180, 0, 122, 21, 4, 185, 0, 145, 2, 0, 192, 0, 151, 182, 1, 16, 153, 0, 6, 132, 3, 1]
abbrev dktX1_straps_2 : List UInt8 := dkwX1_straps_2 ++ dktX1_straps_3
def dkwX1_straps_1 : List UInt8 := [54, 4, 21, 4, 42, 180, 0, 19, 180, 0, 122, 185, 0, 118, 1, 0, 162, 0, 36, 44, 42, 180, 0, 19]
abbrev dktX1_straps_1 : List UInt8 := dkwX1_straps_1 ++ dktX1_straps_2
def dkwX1_straps_0 : List UInt8 := [27, 4, 16, 8, 184, 0, 134, 184, 0, 54, 187, 1, 13, 89, 42, 27, 183, 1, 15, 77, 3, 62, 3]
abbrev dktX1_straps_0 : List UInt8 := dkwX1_straps_0 ++ dktX1_straps_1
theorem dksX1_straps_0 : cX1_straps.data.toList.drop 0 = dktX1_straps_0 := by decide +kernel
theorem dksX1_straps_1 : cX1_straps.data.toList.drop 23 = dktX1_straps_1 := dk_seg dksX1_straps_0 23 rfl rfl
theorem dksX1_straps_2 : cX1_straps.data.toList.drop 47 = dktX1_straps_2 := dk_seg dksX1_straps_1 24 rfl rfl
theorem dksX1_straps_3 : cX1_straps.data.toList.drop 69 = dktX1_straps_3 := dk_seg dksX1_straps_2 22 rfl rfl
theorem dX1_straps_0 : decode cX1_straps 0 = .ok (.iload_n 1, 1) := dk_27 (dk_at dksX1_straps_0 0 rfl rfl)
theorem dX1_straps_1 : decode cX1_straps 1 = .ok (.iconst 1, 1) := dk_4 (dk_at dksX1_straps_0 1 rfl rfl)
theorem dX1_straps_2 : decode cX1_straps 2 = .ok (.bipush 8, 2) := dk_16 8 (dk_at dksX1_straps_0 2 rfl rfl)
theorem dX1_straps_4 : decode cX1_straps 4 = .ok (.invokestatic 134, 3) := dk_184 0 134 (dk_at dksX1_straps_0 4 rfl rfl)
theorem dX1_straps_7 : decode cX1_straps 7 = .ok (.invokestatic 54, 3) := dk_184 0 54 (dk_at dksX1_straps_0 7 rfl rfl)
theorem dX1_straps_10 : decode cX1_straps 10 = .ok (.new 269, 3) := dk_187 1 13 (dk_at dksX1_straps_0 10 rfl rfl)
theorem dX1_straps_13 : decode cX1_straps 13 = .ok (.dup, 1) := dk_89 (dk_at dksX1_straps_0 13 rfl rfl)
theorem dX1_straps_14 : decode cX1_straps 14 = .ok (.aload_n 0, 1) := dk_42 (dk_at dksX1_straps_0 14 rfl rfl)
theorem dX1_straps_15 : decode cX1_straps 15 = .ok (.iload_n 1, 1) := dk_27 (dk_at dksX1_straps_0 15 rfl rfl)
theorem dX1_straps_16 : decode cX1_straps 16 = .ok (.invokespecial 271, 3) := dk_183 1 15 (dk_at dksX1_straps_0 16 rfl rfl)
theorem dX1_straps_19 : decode cX1_straps 19 = .ok (.astore_n 2, 1) := dk_77 (dk_at dksX1_straps_0 19 rfl rfl)
theorem dX1_straps_20 : decode cX1_straps 20 = .ok (.iconst 0, 1) := dk_3 (dk_at dksX1_straps_0 20 rfl rfl)
theorem dX1_straps_21 : decode cX1_straps 21 = .ok (.istore_n 3, 1) := dk_62 (dk_at dksX1_straps_0 21 rfl rfl)
theorem dX1_straps_22 : decode cX1_straps 22 = .ok (.iconst 0, 1) := dk_3 (dk_at dksX1_straps_0 22 rfl rfl)
theorem dX1_straps_23 : decode cX1_straps 23 = .ok (.istore 4, 2) := dk_54 4 (dk_at dksX1_straps_1 0 rfl rfl)
theorem dX1_straps_25 : decode cX1_straps 25 = .ok (.iload 4, 2) := dk_21 4 (dk_at dksX1_straps_1 2 rfl rfl)
theorem dX1_straps_27 : decode cX1_straps 27 = .ok (.aload_n 0, 1) := dk_42 (dk_at dksX1_straps_1 4 rfl rfl)
theorem dX1_straps_28 : decode cX1_straps 28 = .ok (.getfield 19, 3) := dk_180 0 19 (dk_at dksX1_straps_1 5 rfl rfl)
theorem dX1_straps_31 : decode cX1_straps 31 = .ok (.getfield 122, 3) := dk_180 0 122 (dk_at dksX1_straps_1 8 rfl rfl)
theorem dX1_straps_34 : decode cX1_straps 34 = .ok (.invokeinterface 118 1, 5) := by decide +kernel
theorem dX1_straps_39 : decode cX1_straps 39 = .ok (.if_icmp .ge 36, 3) := dk_162 0 36 (dk_at dksX1_straps_1 16 rfl rfl)
theorem dX1_straps_42 : decode cX1_straps 42 = .ok (.aload_n 2, 1) := dk_44 (dk_at dksX1_straps_1 19 rfl rfl)
theorem dX1_straps_43 : decode cX1_straps 43 = .ok (.aload_n 0, 1) := dk_42 (dk_at dksX1_straps_1 20 rfl rfl)
theorem dX1_straps_44 : decode cX1_straps 44 = .ok (.getfield 19, 3) := dk_180 0 19 (dk_at dksX1_straps_1 21 rfl rfl)
theorem dX1_straps_47 : decode cX1_straps 47 = .ok (.getfield 122, 3) := dk_180 0 122 (dk_at dksX1_straps_2 0 rfl rfl)
theorem dX1_straps_50 : decode cX1_straps 50 = .ok (.iload 4, 2) := dk_21 4 (dk_at dksX1_straps_2 3 rfl rfl)
theorem dX1_straps_52 : decode cX1_straps 52 = .ok (.invokeinterface 145 2, 5) := by decide +kernel
theorem dX1_straps_57 : decode cX1_straps 57 = .ok (.checkcast 151, 3) := dk_192 0 151 (dk_at dksX1_straps_2 10 rfl rfl)
theorem dX1_straps_60 : decode cX1_straps 60 = .ok (.invokevirtual 272, 3) := dk_182 1 16 (dk_at dksX1_straps_2 13 rfl rfl)
theorem dX1_straps_63 : decode cX1_straps 63 = .ok (.ifCond .eq 6, 3) := dk_153 0 6 (dk_at dksX1_straps_2 16 rfl rfl)
theorem dX1_straps_66 : decode cX1_straps 66 = .ok (.iinc 3 1, 3) := dk_132 3 1 (dk_at dksX1_straps_2 19 rfl rfl)
theorem dX1_straps_69 : decode cX1_straps 69 = .ok (.iinc 4 1, 3) := dk_132 4 1 (dk_at dksX1_straps_3 0 rfl rfl)
theorem dX1_straps_72 : decode cX1_straps 72 = .ok (.goto (-47), 3) := dk_167 255 209 (dk_at dksX1_straps_3 3 rfl rfl)
theorem dX1_straps_75 : decode cX1_straps 75 = .ok (.iload_n 3, 1) := dk_29 (dk_at dksX1_straps_3 6 rfl rfl)
theorem dX1_straps_76 : decode cX1_straps 76 = .ok (.ireturn, 1) := dk_172 (dk_at dksX1_straps_3 7 rfl rfl)
abbrev cX1_worth : ByteArray := prog_1_method_45_code
def yX1_worth : MethodName := ⟨RX1, "worth", "(I)I"⟩
def dkwX1_worth_0 : List UInt8 := [42, 27, 182, 0, 166, 87, 42, 27, 182, 1, 23, 172]
abbrev dktX1_worth_0 : List UInt8 := dkwX1_worth_0 ++ []
theorem dksX1_worth_0 : cX1_worth.data.toList.drop 0 = dktX1_worth_0 := by decide +kernel
theorem dX1_worth_0 : decode cX1_worth 0 = .ok (.aload_n 0, 1) := dk_42 (dk_at dksX1_worth_0 0 rfl rfl)
theorem dX1_worth_1 : decode cX1_worth 1 = .ok (.iload_n 1, 1) := dk_27 (dk_at dksX1_worth_0 1 rfl rfl)
theorem dX1_worth_2 : decode cX1_worth 2 = .ok (.invokevirtual 166, 3) := dk_182 0 166 (dk_at dksX1_worth_0 2 rfl rfl)
theorem dX1_worth_5 : decode cX1_worth 5 = .ok (.pop, 1) := dk_87 (dk_at dksX1_worth_0 5 rfl rfl)
theorem dX1_worth_6 : decode cX1_worth 6 = .ok (.aload_n 0, 1) := dk_42 (dk_at dksX1_worth_0 6 rfl rfl)
theorem dX1_worth_7 : decode cX1_worth 7 = .ok (.iload_n 1, 1) := dk_27 (dk_at dksX1_worth_0 7 rfl rfl)
theorem dX1_worth_8 : decode cX1_worth 8 = .ok (.invokevirtual 279, 3) := dk_182 1 23 (dk_at dksX1_worth_0 8 rfl rfl)
theorem dX1_worth_11 : decode cX1_worth 11 = .ok (.ireturn, 1) := dk_172 (dk_at dksX1_worth_0 11 rfl rfl)
abbrev cX1_see : ByteArray := prog_1_method_47_code
def yX1_see : MethodName := ⟨RX1, "see", "(III)I"⟩
def dkwX1_see_3 : List UInt8 := [185, 0, 207, 2, 0, 87, 42, 180, 0, 48, 185, 0, 118, 1, 0, 172]
abbrev dktX1_see_3 : List UInt8 := dkwX1_see_3 ++ []
def dkwX1_see_2 : List UInt8 := [182, 0, 218, 172, 42, 180, 0, 48, 6, 188, 10, 89, 3, 27, 79, 89, 4, 28, 79, 89, 5, 29, 79]
abbrev dktX1_see_2 : List UInt8 := dkwX1_see_2 ++ dktX1_see_3
def dkwX1_see_1 : List UInt8 := [17, 2, 88, 184, 0, 134, 153, 0, 16, 29, 2, 159, 0, 17, 42, 29, 182, 0, 141, 154, 0, 9, 42, 5]
abbrev dktX1_see_1 : List UInt8 := dkwX1_see_1 ++ dktX1_see_2
def dkwX1_see_0 : List UInt8 := [42, 27, 182, 0, 166, 87, 42, 180, 0, 48, 185, 0, 118, 1, 0, 16, 8, 159, 0, 27, 28, 3]
abbrev dktX1_see_0 : List UInt8 := dkwX1_see_0 ++ dktX1_see_1
theorem dksX1_see_0 : cX1_see.data.toList.drop 0 = dktX1_see_0 := by decide +kernel
theorem dksX1_see_1 : cX1_see.data.toList.drop 22 = dktX1_see_1 := dk_seg dksX1_see_0 22 rfl rfl
theorem dksX1_see_2 : cX1_see.data.toList.drop 46 = dktX1_see_2 := dk_seg dksX1_see_1 24 rfl rfl
theorem dksX1_see_3 : cX1_see.data.toList.drop 69 = dktX1_see_3 := dk_seg dksX1_see_2 23 rfl rfl
theorem dX1_see_0 : decode cX1_see 0 = .ok (.aload_n 0, 1) := dk_42 (dk_at dksX1_see_0 0 rfl rfl)
theorem dX1_see_1 : decode cX1_see 1 = .ok (.iload_n 1, 1) := dk_27 (dk_at dksX1_see_0 1 rfl rfl)
theorem dX1_see_2 : decode cX1_see 2 = .ok (.invokevirtual 166, 3) := dk_182 0 166 (dk_at dksX1_see_0 2 rfl rfl)
theorem dX1_see_5 : decode cX1_see 5 = .ok (.pop, 1) := dk_87 (dk_at dksX1_see_0 5 rfl rfl)
theorem dX1_see_6 : decode cX1_see 6 = .ok (.aload_n 0, 1) := dk_42 (dk_at dksX1_see_0 6 rfl rfl)
theorem dX1_see_7 : decode cX1_see 7 = .ok (.getfield 48, 3) := dk_180 0 48 (dk_at dksX1_see_0 7 rfl rfl)
theorem dX1_see_10 : decode cX1_see 10 = .ok (.invokeinterface 118 1, 5) := by decide +kernel
theorem dX1_see_15 : decode cX1_see 15 = .ok (.bipush 8, 2) := dk_16 8 (dk_at dksX1_see_0 15 rfl rfl)
theorem dX1_see_17 : decode cX1_see 17 = .ok (.if_icmp .eq 27, 3) := dk_159 0 27 (dk_at dksX1_see_0 17 rfl rfl)
theorem dX1_see_20 : decode cX1_see 20 = .ok (.iload_n 2, 1) := dk_28 (dk_at dksX1_see_0 20 rfl rfl)
theorem dX1_see_21 : decode cX1_see 21 = .ok (.iconst 0, 1) := dk_3 (dk_at dksX1_see_0 21 rfl rfl)
theorem dX1_see_22 : decode cX1_see 22 = .ok (.sipush 600, 3) := dk_17 2 88 (dk_at dksX1_see_1 0 rfl rfl)
theorem dX1_see_25 : decode cX1_see 25 = .ok (.invokestatic 134, 3) := dk_184 0 134 (dk_at dksX1_see_1 3 rfl rfl)
theorem dX1_see_28 : decode cX1_see 28 = .ok (.ifCond .eq 16, 3) := dk_153 0 16 (dk_at dksX1_see_1 6 rfl rfl)
theorem dX1_see_31 : decode cX1_see 31 = .ok (.iload_n 3, 1) := dk_29 (dk_at dksX1_see_1 9 rfl rfl)
theorem dX1_see_32 : decode cX1_see 32 = .ok (.iconst (-1), 1) := dk_2 (dk_at dksX1_see_1 10 rfl rfl)
theorem dX1_see_33 : decode cX1_see 33 = .ok (.if_icmp .eq 17, 3) := dk_159 0 17 (dk_at dksX1_see_1 11 rfl rfl)
theorem dX1_see_36 : decode cX1_see 36 = .ok (.aload_n 0, 1) := dk_42 (dk_at dksX1_see_1 14 rfl rfl)
theorem dX1_see_37 : decode cX1_see 37 = .ok (.iload_n 3, 1) := dk_29 (dk_at dksX1_see_1 15 rfl rfl)
theorem dX1_see_38 : decode cX1_see 38 = .ok (.invokevirtual 141, 3) := dk_182 0 141 (dk_at dksX1_see_1 16 rfl rfl)
theorem dX1_see_41 : decode cX1_see 41 = .ok (.ifCond .ne 9, 3) := dk_154 0 9 (dk_at dksX1_see_1 19 rfl rfl)
theorem dX1_see_44 : decode cX1_see 44 = .ok (.aload_n 0, 1) := dk_42 (dk_at dksX1_see_1 22 rfl rfl)
theorem dX1_see_45 : decode cX1_see 45 = .ok (.iconst 2, 1) := dk_5 (dk_at dksX1_see_1 23 rfl rfl)
theorem dX1_see_46 : decode cX1_see 46 = .ok (.invokevirtual 218, 3) := dk_182 0 218 (dk_at dksX1_see_2 0 rfl rfl)
theorem dX1_see_49 : decode cX1_see 49 = .ok (.ireturn, 1) := dk_172 (dk_at dksX1_see_2 3 rfl rfl)
theorem dX1_see_50 : decode cX1_see 50 = .ok (.aload_n 0, 1) := dk_42 (dk_at dksX1_see_2 4 rfl rfl)
theorem dX1_see_51 : decode cX1_see 51 = .ok (.getfield 48, 3) := dk_180 0 48 (dk_at dksX1_see_2 5 rfl rfl)
theorem dX1_see_54 : decode cX1_see 54 = .ok (.iconst 3, 1) := dk_6 (dk_at dksX1_see_2 8 rfl rfl)
theorem dX1_see_55 : decode cX1_see 55 = .ok (.newarray .int, 2) := dk_188_10 (dk_at dksX1_see_2 9 rfl rfl)
theorem dX1_see_57 : decode cX1_see 57 = .ok (.dup, 1) := dk_89 (dk_at dksX1_see_2 11 rfl rfl)
theorem dX1_see_58 : decode cX1_see 58 = .ok (.iconst 0, 1) := dk_3 (dk_at dksX1_see_2 12 rfl rfl)
theorem dX1_see_59 : decode cX1_see 59 = .ok (.iload_n 1, 1) := dk_27 (dk_at dksX1_see_2 13 rfl rfl)
theorem dX1_see_60 : decode cX1_see 60 = .ok (.iastore, 1) := dk_79 (dk_at dksX1_see_2 14 rfl rfl)
theorem dX1_see_61 : decode cX1_see 61 = .ok (.dup, 1) := dk_89 (dk_at dksX1_see_2 15 rfl rfl)
theorem dX1_see_62 : decode cX1_see 62 = .ok (.iconst 1, 1) := dk_4 (dk_at dksX1_see_2 16 rfl rfl)
theorem dX1_see_63 : decode cX1_see 63 = .ok (.iload_n 2, 1) := dk_28 (dk_at dksX1_see_2 17 rfl rfl)
theorem dX1_see_64 : decode cX1_see 64 = .ok (.iastore, 1) := dk_79 (dk_at dksX1_see_2 18 rfl rfl)
theorem dX1_see_65 : decode cX1_see 65 = .ok (.dup, 1) := dk_89 (dk_at dksX1_see_2 19 rfl rfl)
theorem dX1_see_66 : decode cX1_see 66 = .ok (.iconst 2, 1) := dk_5 (dk_at dksX1_see_2 20 rfl rfl)
theorem dX1_see_67 : decode cX1_see 67 = .ok (.iload_n 3, 1) := dk_29 (dk_at dksX1_see_2 21 rfl rfl)
theorem dX1_see_68 : decode cX1_see 68 = .ok (.iastore, 1) := dk_79 (dk_at dksX1_see_2 22 rfl rfl)
theorem dX1_see_69 : decode cX1_see 69 = .ok (.invokeinterface 207 2, 5) := by decide +kernel
theorem dX1_see_74 : decode cX1_see 74 = .ok (.pop, 1) := dk_87 (dk_at dksX1_see_3 5 rfl rfl)
theorem dX1_see_75 : decode cX1_see 75 = .ok (.aload_n 0, 1) := dk_42 (dk_at dksX1_see_3 6 rfl rfl)
theorem dX1_see_76 : decode cX1_see 76 = .ok (.getfield 48, 3) := dk_180 0 48 (dk_at dksX1_see_3 7 rfl rfl)
theorem dX1_see_79 : decode cX1_see 79 = .ok (.invokeinterface 118 1, 5) := by decide +kernel
theorem dX1_see_84 : decode cX1_see 84 = .ok (.ireturn, 1) := dk_172 (dk_at dksX1_see_3 15 rfl rfl)
abbrev cX1_bats : ByteArray := prog_1_method_58_code
def yX1_bats : MethodName := ⟨RX1, "bats", "(I)I"⟩
def dkwX1_bats_6 : List UInt8 := [167, 0, 4, 29, 172]
abbrev dktX1_bats_6 : List UInt8 := dkwX1_bats_6 ++ []
def dkwX1_bats_5 : List UInt8 := [21, 5, 96, 62, 132, 2, 1, 132, 5, 1, 167, 255, 151, 132, 4, 1, 167, 255, 135, 27, 154, 0, 7, 28]
abbrev dktX1_bats_5 : List UInt8 := dkwX1_bats_5 ++ dktX1_bats_6
def dkwX1_bats_4 : List UInt8 := [132, 7, 1, 167, 255, 194, 21, 6, 154, 0, 6, 167, 0, 19, 28, 154, 0, 12, 16, 10, 21, 4, 104]
abbrev dktX1_bats_4 : List UInt8 := dkwX1_bats_4 ++ dktX1_bats_5
def dkwX1_bats_3 : List UInt8 := [182, 1, 46, 42, 21, 5, 21, 4, 3, 182, 1, 46, 163, 0, 7, 4, 167, 0, 4, 3, 126, 54, 6]
abbrev dktX1_bats_3 : List UInt8 := dkwX1_bats_3 ++ dktX1_bats_4
def dkwX1_bats_2 : List UInt8 := [21, 5, 4, 182, 1, 46, 42, 21, 4, 21, 5, 4, 182, 1, 46, 163, 0, 28, 42, 21, 7, 21, 4, 3]
abbrev dktX1_bats_2 : List UInt8 := dkwX1_bats_2 ++ dktX1_bats_3
def dkwX1_bats_1 : List UInt8 := [16, 9, 163, 0, 104, 4, 54, 6, 4, 54, 7, 21, 7, 16, 9, 163, 0, 61, 21, 6, 42, 21, 7]
abbrev dktX1_bats_1 : List UInt8 := dkwX1_bats_1 ++ dktX1_bats_2
def dkwX1_bats_0 : List UInt8 := [27, 4, 184, 0, 186, 3, 61, 2, 62, 4, 54, 4, 21, 4, 16, 9, 163, 0, 120, 4, 54, 5, 21, 5]
abbrev dktX1_bats_0 : List UInt8 := dkwX1_bats_0 ++ dktX1_bats_1
theorem dksX1_bats_0 : cX1_bats.data.toList.drop 0 = dktX1_bats_0 := by decide +kernel
theorem dksX1_bats_1 : cX1_bats.data.toList.drop 24 = dktX1_bats_1 := dk_seg dksX1_bats_0 24 rfl rfl
theorem dksX1_bats_2 : cX1_bats.data.toList.drop 47 = dktX1_bats_2 := dk_seg dksX1_bats_1 23 rfl rfl
theorem dksX1_bats_3 : cX1_bats.data.toList.drop 71 = dktX1_bats_3 := dk_seg dksX1_bats_2 24 rfl rfl
theorem dksX1_bats_4 : cX1_bats.data.toList.drop 94 = dktX1_bats_4 := dk_seg dksX1_bats_3 23 rfl rfl
theorem dksX1_bats_5 : cX1_bats.data.toList.drop 117 = dktX1_bats_5 := dk_seg dksX1_bats_4 23 rfl rfl
theorem dksX1_bats_6 : cX1_bats.data.toList.drop 141 = dktX1_bats_6 := dk_seg dksX1_bats_5 24 rfl rfl
theorem dX1_bats_0 : decode cX1_bats 0 = .ok (.iload_n 1, 1) := dk_27 (dk_at dksX1_bats_0 0 rfl rfl)
theorem dX1_bats_1 : decode cX1_bats 1 = .ok (.iconst 1, 1) := dk_4 (dk_at dksX1_bats_0 1 rfl rfl)
theorem dX1_bats_2 : decode cX1_bats 2 = .ok (.invokestatic 186, 3) := dk_184 0 186 (dk_at dksX1_bats_0 2 rfl rfl)
theorem dX1_bats_5 : decode cX1_bats 5 = .ok (.iconst 0, 1) := dk_3 (dk_at dksX1_bats_0 5 rfl rfl)
theorem dX1_bats_6 : decode cX1_bats 6 = .ok (.istore_n 2, 1) := dk_61 (dk_at dksX1_bats_0 6 rfl rfl)
theorem dX1_bats_7 : decode cX1_bats 7 = .ok (.iconst (-1), 1) := dk_2 (dk_at dksX1_bats_0 7 rfl rfl)
theorem dX1_bats_8 : decode cX1_bats 8 = .ok (.istore_n 3, 1) := dk_62 (dk_at dksX1_bats_0 8 rfl rfl)
theorem dX1_bats_9 : decode cX1_bats 9 = .ok (.iconst 1, 1) := dk_4 (dk_at dksX1_bats_0 9 rfl rfl)
theorem dX1_bats_10 : decode cX1_bats 10 = .ok (.istore 4, 2) := dk_54 4 (dk_at dksX1_bats_0 10 rfl rfl)
theorem dX1_bats_12 : decode cX1_bats 12 = .ok (.iload 4, 2) := dk_21 4 (dk_at dksX1_bats_0 12 rfl rfl)
theorem dX1_bats_14 : decode cX1_bats 14 = .ok (.bipush 9, 2) := dk_16 9 (dk_at dksX1_bats_0 14 rfl rfl)
theorem dX1_bats_16 : decode cX1_bats 16 = .ok (.if_icmp .gt 120, 3) := dk_163 0 120 (dk_at dksX1_bats_0 16 rfl rfl)
theorem dX1_bats_19 : decode cX1_bats 19 = .ok (.iconst 1, 1) := dk_4 (dk_at dksX1_bats_0 19 rfl rfl)
theorem dX1_bats_20 : decode cX1_bats 20 = .ok (.istore 5, 2) := dk_54 5 (dk_at dksX1_bats_0 20 rfl rfl)
theorem dX1_bats_22 : decode cX1_bats 22 = .ok (.iload 5, 2) := dk_21 5 (dk_at dksX1_bats_0 22 rfl rfl)
theorem dX1_bats_24 : decode cX1_bats 24 = .ok (.bipush 9, 2) := dk_16 9 (dk_at dksX1_bats_1 0 rfl rfl)
theorem dX1_bats_26 : decode cX1_bats 26 = .ok (.if_icmp .gt 104, 3) := dk_163 0 104 (dk_at dksX1_bats_1 2 rfl rfl)
theorem dX1_bats_29 : decode cX1_bats 29 = .ok (.iconst 1, 1) := dk_4 (dk_at dksX1_bats_1 5 rfl rfl)
theorem dX1_bats_30 : decode cX1_bats 30 = .ok (.istore 6, 2) := dk_54 6 (dk_at dksX1_bats_1 6 rfl rfl)
theorem dX1_bats_32 : decode cX1_bats 32 = .ok (.iconst 1, 1) := dk_4 (dk_at dksX1_bats_1 8 rfl rfl)
theorem dX1_bats_33 : decode cX1_bats 33 = .ok (.istore 7, 2) := dk_54 7 (dk_at dksX1_bats_1 9 rfl rfl)
theorem dX1_bats_35 : decode cX1_bats 35 = .ok (.iload 7, 2) := dk_21 7 (dk_at dksX1_bats_1 11 rfl rfl)
theorem dX1_bats_37 : decode cX1_bats 37 = .ok (.bipush 9, 2) := dk_16 9 (dk_at dksX1_bats_1 13 rfl rfl)
theorem dX1_bats_39 : decode cX1_bats 39 = .ok (.if_icmp .gt 61, 3) := dk_163 0 61 (dk_at dksX1_bats_1 15 rfl rfl)
theorem dX1_bats_42 : decode cX1_bats 42 = .ok (.iload 6, 2) := dk_21 6 (dk_at dksX1_bats_1 18 rfl rfl)
theorem dX1_bats_44 : decode cX1_bats 44 = .ok (.aload_n 0, 1) := dk_42 (dk_at dksX1_bats_1 20 rfl rfl)
theorem dX1_bats_45 : decode cX1_bats 45 = .ok (.iload 7, 2) := dk_21 7 (dk_at dksX1_bats_1 21 rfl rfl)
theorem dX1_bats_47 : decode cX1_bats 47 = .ok (.iload 5, 2) := dk_21 5 (dk_at dksX1_bats_2 0 rfl rfl)
theorem dX1_bats_49 : decode cX1_bats 49 = .ok (.iconst 1, 1) := dk_4 (dk_at dksX1_bats_2 2 rfl rfl)
theorem dX1_bats_50 : decode cX1_bats 50 = .ok (.invokevirtual 302, 3) := dk_182 1 46 (dk_at dksX1_bats_2 3 rfl rfl)
theorem dX1_bats_53 : decode cX1_bats 53 = .ok (.aload_n 0, 1) := dk_42 (dk_at dksX1_bats_2 6 rfl rfl)
theorem dX1_bats_54 : decode cX1_bats 54 = .ok (.iload 4, 2) := dk_21 4 (dk_at dksX1_bats_2 7 rfl rfl)
theorem dX1_bats_56 : decode cX1_bats 56 = .ok (.iload 5, 2) := dk_21 5 (dk_at dksX1_bats_2 9 rfl rfl)
theorem dX1_bats_58 : decode cX1_bats 58 = .ok (.iconst 1, 1) := dk_4 (dk_at dksX1_bats_2 11 rfl rfl)
theorem dX1_bats_59 : decode cX1_bats 59 = .ok (.invokevirtual 302, 3) := dk_182 1 46 (dk_at dksX1_bats_2 12 rfl rfl)
theorem dX1_bats_62 : decode cX1_bats 62 = .ok (.if_icmp .gt 28, 3) := dk_163 0 28 (dk_at dksX1_bats_2 15 rfl rfl)
theorem dX1_bats_65 : decode cX1_bats 65 = .ok (.aload_n 0, 1) := dk_42 (dk_at dksX1_bats_2 18 rfl rfl)
theorem dX1_bats_66 : decode cX1_bats 66 = .ok (.iload 7, 2) := dk_21 7 (dk_at dksX1_bats_2 19 rfl rfl)
theorem dX1_bats_68 : decode cX1_bats 68 = .ok (.iload 4, 2) := dk_21 4 (dk_at dksX1_bats_2 21 rfl rfl)
theorem dX1_bats_70 : decode cX1_bats 70 = .ok (.iconst 0, 1) := dk_3 (dk_at dksX1_bats_2 23 rfl rfl)
theorem dX1_bats_71 : decode cX1_bats 71 = .ok (.invokevirtual 302, 3) := dk_182 1 46 (dk_at dksX1_bats_3 0 rfl rfl)
theorem dX1_bats_74 : decode cX1_bats 74 = .ok (.aload_n 0, 1) := dk_42 (dk_at dksX1_bats_3 3 rfl rfl)
theorem dX1_bats_75 : decode cX1_bats 75 = .ok (.iload 5, 2) := dk_21 5 (dk_at dksX1_bats_3 4 rfl rfl)
theorem dX1_bats_77 : decode cX1_bats 77 = .ok (.iload 4, 2) := dk_21 4 (dk_at dksX1_bats_3 6 rfl rfl)
theorem dX1_bats_79 : decode cX1_bats 79 = .ok (.iconst 0, 1) := dk_3 (dk_at dksX1_bats_3 8 rfl rfl)
theorem dX1_bats_80 : decode cX1_bats 80 = .ok (.invokevirtual 302, 3) := dk_182 1 46 (dk_at dksX1_bats_3 9 rfl rfl)
theorem dX1_bats_83 : decode cX1_bats 83 = .ok (.if_icmp .gt 7, 3) := dk_163 0 7 (dk_at dksX1_bats_3 12 rfl rfl)
theorem dX1_bats_86 : decode cX1_bats 86 = .ok (.iconst 1, 1) := dk_4 (dk_at dksX1_bats_3 15 rfl rfl)
theorem dX1_bats_87 : decode cX1_bats 87 = .ok (.goto 4, 3) := dk_167 0 4 (dk_at dksX1_bats_3 16 rfl rfl)
theorem dX1_bats_90 : decode cX1_bats 90 = .ok (.iconst 0, 1) := dk_3 (dk_at dksX1_bats_3 19 rfl rfl)
theorem dX1_bats_91 : decode cX1_bats 91 = .ok (.iand, 1) := dk_126 (dk_at dksX1_bats_3 20 rfl rfl)
theorem dX1_bats_92 : decode cX1_bats 92 = .ok (.istore 6, 2) := dk_54 6 (dk_at dksX1_bats_3 21 rfl rfl)
theorem dX1_bats_94 : decode cX1_bats 94 = .ok (.iinc 7 1, 3) := dk_132 7 1 (dk_at dksX1_bats_4 0 rfl rfl)
theorem dX1_bats_97 : decode cX1_bats 97 = .ok (.goto (-62), 3) := dk_167 255 194 (dk_at dksX1_bats_4 3 rfl rfl)
theorem dX1_bats_100 : decode cX1_bats 100 = .ok (.iload 6, 2) := dk_21 6 (dk_at dksX1_bats_4 6 rfl rfl)
theorem dX1_bats_102 : decode cX1_bats 102 = .ok (.ifCond .ne 6, 3) := dk_154 0 6 (dk_at dksX1_bats_4 8 rfl rfl)
theorem dX1_bats_105 : decode cX1_bats 105 = .ok (.goto 19, 3) := dk_167 0 19 (dk_at dksX1_bats_4 11 rfl rfl)
theorem dX1_bats_108 : decode cX1_bats 108 = .ok (.iload_n 2, 1) := dk_28 (dk_at dksX1_bats_4 14 rfl rfl)
theorem dX1_bats_109 : decode cX1_bats 109 = .ok (.ifCond .ne 12, 3) := dk_154 0 12 (dk_at dksX1_bats_4 15 rfl rfl)
theorem dX1_bats_112 : decode cX1_bats 112 = .ok (.bipush 10, 2) := dk_16 10 (dk_at dksX1_bats_4 18 rfl rfl)
theorem dX1_bats_114 : decode cX1_bats 114 = .ok (.iload 4, 2) := dk_21 4 (dk_at dksX1_bats_4 20 rfl rfl)
theorem dX1_bats_116 : decode cX1_bats 116 = .ok (.imul, 1) := dk_104 (dk_at dksX1_bats_4 22 rfl rfl)
theorem dX1_bats_117 : decode cX1_bats 117 = .ok (.iload 5, 2) := dk_21 5 (dk_at dksX1_bats_5 0 rfl rfl)
theorem dX1_bats_119 : decode cX1_bats 119 = .ok (.iadd, 1) := dk_96 (dk_at dksX1_bats_5 2 rfl rfl)
theorem dX1_bats_120 : decode cX1_bats 120 = .ok (.istore_n 3, 1) := dk_62 (dk_at dksX1_bats_5 3 rfl rfl)
theorem dX1_bats_121 : decode cX1_bats 121 = .ok (.iinc 2 1, 3) := dk_132 2 1 (dk_at dksX1_bats_5 4 rfl rfl)
theorem dX1_bats_124 : decode cX1_bats 124 = .ok (.iinc 5 1, 3) := dk_132 5 1 (dk_at dksX1_bats_5 7 rfl rfl)
theorem dX1_bats_127 : decode cX1_bats 127 = .ok (.goto (-105), 3) := dk_167 255 151 (dk_at dksX1_bats_5 10 rfl rfl)
theorem dX1_bats_130 : decode cX1_bats 130 = .ok (.iinc 4 1, 3) := dk_132 4 1 (dk_at dksX1_bats_5 13 rfl rfl)
theorem dX1_bats_133 : decode cX1_bats 133 = .ok (.goto (-121), 3) := dk_167 255 135 (dk_at dksX1_bats_5 16 rfl rfl)
theorem dX1_bats_136 : decode cX1_bats 136 = .ok (.iload_n 1, 1) := dk_27 (dk_at dksX1_bats_5 19 rfl rfl)
theorem dX1_bats_137 : decode cX1_bats 137 = .ok (.ifCond .ne 7, 3) := dk_154 0 7 (dk_at dksX1_bats_5 20 rfl rfl)
theorem dX1_bats_140 : decode cX1_bats 140 = .ok (.iload_n 2, 1) := dk_28 (dk_at dksX1_bats_5 23 rfl rfl)
theorem dX1_bats_141 : decode cX1_bats 141 = .ok (.goto 4, 3) := dk_167 0 4 (dk_at dksX1_bats_6 0 rfl rfl)
theorem dX1_bats_144 : decode cX1_bats 144 = .ok (.iload_n 3, 1) := dk_29 (dk_at dksX1_bats_6 3 rfl rfl)
theorem dX1_bats_145 : decode cX1_bats 145 = .ok (.ireturn, 1) := dk_172 (dk_at dksX1_bats_6 4 rfl rfl)
abbrev cX1_gain : ByteArray := prog_1_method_57_code
def yX1_gain : MethodName := ⟨RX1, "gain", "(IIZ)I"⟩
def dkwX1_gain_3 : List UInt8 := [21, 4, 27, 4, 100, 104, 172]
abbrev dktX1_gain_3 : List UInt8 := dkwX1_gain_3 ++ []
def dkwX1_gain_2 : List UInt8 := [185, 0, 145, 2, 0, 192, 0, 151, 6, 46, 27, 161, 0, 6, 132, 4, 1, 132, 5, 1, 167, 255, 210]
abbrev dktX1_gain_2 : List UInt8 := dkwX1_gain_2 ++ dktX1_gain_3
def dkwX1_gain_1 : List UInt8 := [42, 180, 0, 19, 180, 0, 122, 185, 0, 118, 1, 0, 162, 0, 35, 42, 180, 0, 19, 180, 0, 122, 21, 5]
abbrev dktX1_gain_1 : List UInt8 := dkwX1_gain_1 ++ dktX1_gain_2
def dkwX1_gain_0 : List UInt8 := [27, 28, 163, 0, 12, 27, 28, 160, 0, 9, 29, 154, 0, 5, 3, 172, 3, 54, 4, 3, 54, 5, 21, 5]
abbrev dktX1_gain_0 : List UInt8 := dkwX1_gain_0 ++ dktX1_gain_1
theorem dksX1_gain_0 : cX1_gain.data.toList.drop 0 = dktX1_gain_0 := by decide +kernel
theorem dksX1_gain_1 : cX1_gain.data.toList.drop 24 = dktX1_gain_1 := dk_seg dksX1_gain_0 24 rfl rfl
theorem dksX1_gain_2 : cX1_gain.data.toList.drop 48 = dktX1_gain_2 := dk_seg dksX1_gain_1 24 rfl rfl
theorem dksX1_gain_3 : cX1_gain.data.toList.drop 71 = dktX1_gain_3 := dk_seg dksX1_gain_2 23 rfl rfl
theorem dX1_gain_0 : decode cX1_gain 0 = .ok (.iload_n 1, 1) := dk_27 (dk_at dksX1_gain_0 0 rfl rfl)
theorem dX1_gain_1 : decode cX1_gain 1 = .ok (.iload_n 2, 1) := dk_28 (dk_at dksX1_gain_0 1 rfl rfl)
theorem dX1_gain_2 : decode cX1_gain 2 = .ok (.if_icmp .gt 12, 3) := dk_163 0 12 (dk_at dksX1_gain_0 2 rfl rfl)
theorem dX1_gain_5 : decode cX1_gain 5 = .ok (.iload_n 1, 1) := dk_27 (dk_at dksX1_gain_0 5 rfl rfl)
theorem dX1_gain_6 : decode cX1_gain 6 = .ok (.iload_n 2, 1) := dk_28 (dk_at dksX1_gain_0 6 rfl rfl)
theorem dX1_gain_7 : decode cX1_gain 7 = .ok (.if_icmp .ne 9, 3) := dk_160 0 9 (dk_at dksX1_gain_0 7 rfl rfl)
theorem dX1_gain_10 : decode cX1_gain 10 = .ok (.iload_n 3, 1) := dk_29 (dk_at dksX1_gain_0 10 rfl rfl)
theorem dX1_gain_11 : decode cX1_gain 11 = .ok (.ifCond .ne 5, 3) := dk_154 0 5 (dk_at dksX1_gain_0 11 rfl rfl)
theorem dX1_gain_14 : decode cX1_gain 14 = .ok (.iconst 0, 1) := dk_3 (dk_at dksX1_gain_0 14 rfl rfl)
theorem dX1_gain_15 : decode cX1_gain 15 = .ok (.ireturn, 1) := dk_172 (dk_at dksX1_gain_0 15 rfl rfl)
theorem dX1_gain_16 : decode cX1_gain 16 = .ok (.iconst 0, 1) := dk_3 (dk_at dksX1_gain_0 16 rfl rfl)
theorem dX1_gain_17 : decode cX1_gain 17 = .ok (.istore 4, 2) := dk_54 4 (dk_at dksX1_gain_0 17 rfl rfl)
theorem dX1_gain_19 : decode cX1_gain 19 = .ok (.iconst 0, 1) := dk_3 (dk_at dksX1_gain_0 19 rfl rfl)
theorem dX1_gain_20 : decode cX1_gain 20 = .ok (.istore 5, 2) := dk_54 5 (dk_at dksX1_gain_0 20 rfl rfl)
theorem dX1_gain_22 : decode cX1_gain 22 = .ok (.iload 5, 2) := dk_21 5 (dk_at dksX1_gain_0 22 rfl rfl)
theorem dX1_gain_24 : decode cX1_gain 24 = .ok (.aload_n 0, 1) := dk_42 (dk_at dksX1_gain_1 0 rfl rfl)
theorem dX1_gain_25 : decode cX1_gain 25 = .ok (.getfield 19, 3) := dk_180 0 19 (dk_at dksX1_gain_1 1 rfl rfl)
theorem dX1_gain_28 : decode cX1_gain 28 = .ok (.getfield 122, 3) := dk_180 0 122 (dk_at dksX1_gain_1 4 rfl rfl)
theorem dX1_gain_31 : decode cX1_gain 31 = .ok (.invokeinterface 118 1, 5) := by decide +kernel
theorem dX1_gain_36 : decode cX1_gain 36 = .ok (.if_icmp .ge 35, 3) := dk_162 0 35 (dk_at dksX1_gain_1 12 rfl rfl)
theorem dX1_gain_39 : decode cX1_gain 39 = .ok (.aload_n 0, 1) := dk_42 (dk_at dksX1_gain_1 15 rfl rfl)
theorem dX1_gain_40 : decode cX1_gain 40 = .ok (.getfield 19, 3) := dk_180 0 19 (dk_at dksX1_gain_1 16 rfl rfl)
theorem dX1_gain_43 : decode cX1_gain 43 = .ok (.getfield 122, 3) := dk_180 0 122 (dk_at dksX1_gain_1 19 rfl rfl)
theorem dX1_gain_46 : decode cX1_gain 46 = .ok (.iload 5, 2) := dk_21 5 (dk_at dksX1_gain_1 22 rfl rfl)
theorem dX1_gain_48 : decode cX1_gain 48 = .ok (.invokeinterface 145 2, 5) := by decide +kernel
theorem dX1_gain_53 : decode cX1_gain 53 = .ok (.checkcast 151, 3) := dk_192 0 151 (dk_at dksX1_gain_2 5 rfl rfl)
theorem dX1_gain_56 : decode cX1_gain 56 = .ok (.iconst 3, 1) := dk_6 (dk_at dksX1_gain_2 8 rfl rfl)
theorem dX1_gain_57 : decode cX1_gain 57 = .ok (.iaload, 1) := dk_46 (dk_at dksX1_gain_2 9 rfl rfl)
theorem dX1_gain_58 : decode cX1_gain 58 = .ok (.iload_n 1, 1) := dk_27 (dk_at dksX1_gain_2 10 rfl rfl)
theorem dX1_gain_59 : decode cX1_gain 59 = .ok (.if_icmp .lt 6, 3) := dk_161 0 6 (dk_at dksX1_gain_2 11 rfl rfl)
theorem dX1_gain_62 : decode cX1_gain 62 = .ok (.iinc 4 1, 3) := dk_132 4 1 (dk_at dksX1_gain_2 14 rfl rfl)
theorem dX1_gain_65 : decode cX1_gain 65 = .ok (.iinc 5 1, 3) := dk_132 5 1 (dk_at dksX1_gain_2 17 rfl rfl)
theorem dX1_gain_68 : decode cX1_gain 68 = .ok (.goto (-46), 3) := dk_167 255 210 (dk_at dksX1_gain_2 20 rfl rfl)
theorem dX1_gain_71 : decode cX1_gain 71 = .ok (.iload 4, 2) := dk_21 4 (dk_at dksX1_gain_3 0 rfl rfl)
theorem dX1_gain_73 : decode cX1_gain 73 = .ok (.iload_n 1, 1) := dk_27 (dk_at dksX1_gain_3 2 rfl rfl)
theorem dX1_gain_74 : decode cX1_gain 74 = .ok (.iconst 1, 1) := dk_4 (dk_at dksX1_gain_3 3 rfl rfl)
theorem dX1_gain_75 : decode cX1_gain 75 = .ok (.isub, 1) := dk_100 (dk_at dksX1_gain_3 4 rfl rfl)
theorem dX1_gain_76 : decode cX1_gain 76 = .ok (.imul, 1) := dk_104 (dk_at dksX1_gain_3 5 rfl rfl)
theorem dX1_gain_77 : decode cX1_gain 77 = .ok (.ireturn, 1) := dk_172 (dk_at dksX1_gain_3 6 rfl rfl)
abbrev cX1_years : ByteArray := prog_1_method_60_code
def yX1_years : MethodName := ⟨RX1, "years", "(III)I"⟩
def dkwX1_years_7 : List UInt8 := [172]
abbrev dktX1_years_7 : List UInt8 := dkwX1_years_7 ++ []
def dkwX1_years_6 : List UInt8 := [167, 255, 158, 29, 154, 0, 8, 21, 5, 167, 0, 15, 29, 4, 160, 0, 8, 21, 6, 167, 0, 5, 21, 7]
abbrev dktX1_years_6 : List UInt8 := dkwX1_years_6 ++ dktX1_years_7
def dkwX1_years_5 : List UInt8 := [21, 9, 42, 180, 0, 19, 180, 0, 122, 185, 0, 118, 1, 0, 160, 0, 6, 132, 7, 1, 132, 8, 1]
abbrev dktX1_years_5 : List UInt8 := dkwX1_years_5 ++ dktX1_years_6
def dkwX1_years_4 : List UInt8 := [21, 9, 96, 54, 5, 21, 8, 154, 0, 8, 21, 9, 167, 0, 10, 21, 6, 21, 9, 184, 0, 242, 54, 6]
abbrev dktX1_years_4 : List UInt8 := dkwX1_years_4 ++ dktX1_years_5
def dkwX1_years_3 : List UInt8 := [154, 0, 7, 4, 167, 0, 4, 3, 181, 1, 57, 25, 4, 182, 0, 105, 182, 0, 131, 54, 9, 21, 5]
abbrev dktX1_years_3 : List UInt8 := dkwX1_years_3 ++ dktX1_years_4
def dkwX1_years_2 : List UInt8 := [25, 4, 25, 4, 180, 1, 43, 4, 96, 16, 8, 112, 181, 1, 43, 25, 4, 42, 7, 182, 1, 54]
abbrev dktX1_years_2 : List UInt8 := dkwX1_years_2 ++ dktX1_years_3
def dkwX1_years_1 : List UInt8 := [42, 183, 0, 102, 58, 4, 3, 54, 5, 3, 54, 6, 3, 54, 7, 3, 54, 8, 21, 8, 28, 162, 0, 98]
abbrev dktX1_years_1 : List UInt8 := dkwX1_years_1 ++ dktX1_years_2
def dkwX1_years_0 : List UInt8 := [29, 5, 184, 0, 186, 28, 3, 16, 60, 184, 0, 134, 184, 0, 54, 42, 27, 181, 1, 50, 187, 0, 100, 89]
abbrev dktX1_years_0 : List UInt8 := dkwX1_years_0 ++ dktX1_years_1
theorem dksX1_years_0 : cX1_years.data.toList.drop 0 = dktX1_years_0 := by decide +kernel
theorem dksX1_years_1 : cX1_years.data.toList.drop 24 = dktX1_years_1 := dk_seg dksX1_years_0 24 rfl rfl
theorem dksX1_years_2 : cX1_years.data.toList.drop 48 = dktX1_years_2 := dk_seg dksX1_years_1 24 rfl rfl
theorem dksX1_years_3 : cX1_years.data.toList.drop 70 = dktX1_years_3 := dk_seg dksX1_years_2 22 rfl rfl
theorem dksX1_years_4 : cX1_years.data.toList.drop 93 = dktX1_years_4 := dk_seg dksX1_years_3 23 rfl rfl
theorem dksX1_years_5 : cX1_years.data.toList.drop 117 = dktX1_years_5 := dk_seg dksX1_years_4 24 rfl rfl
theorem dksX1_years_6 : cX1_years.data.toList.drop 140 = dktX1_years_6 := dk_seg dksX1_years_5 23 rfl rfl
theorem dksX1_years_7 : cX1_years.data.toList.drop 164 = dktX1_years_7 := dk_seg dksX1_years_6 24 rfl rfl
theorem dX1_years_0 : decode cX1_years 0 = .ok (.iload_n 3, 1) := dk_29 (dk_at dksX1_years_0 0 rfl rfl)
theorem dX1_years_1 : decode cX1_years 1 = .ok (.iconst 2, 1) := dk_5 (dk_at dksX1_years_0 1 rfl rfl)
theorem dX1_years_2 : decode cX1_years 2 = .ok (.invokestatic 186, 3) := dk_184 0 186 (dk_at dksX1_years_0 2 rfl rfl)
theorem dX1_years_5 : decode cX1_years 5 = .ok (.iload_n 2, 1) := dk_28 (dk_at dksX1_years_0 5 rfl rfl)
theorem dX1_years_6 : decode cX1_years 6 = .ok (.iconst 0, 1) := dk_3 (dk_at dksX1_years_0 6 rfl rfl)
theorem dX1_years_7 : decode cX1_years 7 = .ok (.bipush 60, 2) := dk_16 60 (dk_at dksX1_years_0 7 rfl rfl)
theorem dX1_years_9 : decode cX1_years 9 = .ok (.invokestatic 134, 3) := dk_184 0 134 (dk_at dksX1_years_0 9 rfl rfl)
theorem dX1_years_12 : decode cX1_years 12 = .ok (.invokestatic 54, 3) := dk_184 0 54 (dk_at dksX1_years_0 12 rfl rfl)
theorem dX1_years_15 : decode cX1_years 15 = .ok (.aload_n 0, 1) := dk_42 (dk_at dksX1_years_0 15 rfl rfl)
theorem dX1_years_16 : decode cX1_years 16 = .ok (.iload_n 1, 1) := dk_27 (dk_at dksX1_years_0 16 rfl rfl)
theorem dX1_years_17 : decode cX1_years 17 = .ok (.putfield 306, 3) := dk_181 1 50 (dk_at dksX1_years_0 17 rfl rfl)
theorem dX1_years_20 : decode cX1_years 20 = .ok (.new 100, 3) := dk_187 0 100 (dk_at dksX1_years_0 20 rfl rfl)
theorem dX1_years_23 : decode cX1_years 23 = .ok (.dup, 1) := dk_89 (dk_at dksX1_years_0 23 rfl rfl)
theorem dX1_years_24 : decode cX1_years 24 = .ok (.aload_n 0, 1) := dk_42 (dk_at dksX1_years_1 0 rfl rfl)
theorem dX1_years_25 : decode cX1_years 25 = .ok (.invokespecial 102, 3) := dk_183 0 102 (dk_at dksX1_years_1 1 rfl rfl)
theorem dX1_years_28 : decode cX1_years 28 = .ok (.astore 4, 2) := dk_58 4 (dk_at dksX1_years_1 4 rfl rfl)
theorem dX1_years_30 : decode cX1_years 30 = .ok (.iconst 0, 1) := dk_3 (dk_at dksX1_years_1 6 rfl rfl)
theorem dX1_years_31 : decode cX1_years 31 = .ok (.istore 5, 2) := dk_54 5 (dk_at dksX1_years_1 7 rfl rfl)
theorem dX1_years_33 : decode cX1_years 33 = .ok (.iconst 0, 1) := dk_3 (dk_at dksX1_years_1 9 rfl rfl)
theorem dX1_years_34 : decode cX1_years 34 = .ok (.istore 6, 2) := dk_54 6 (dk_at dksX1_years_1 10 rfl rfl)
theorem dX1_years_36 : decode cX1_years 36 = .ok (.iconst 0, 1) := dk_3 (dk_at dksX1_years_1 12 rfl rfl)
theorem dX1_years_37 : decode cX1_years 37 = .ok (.istore 7, 2) := dk_54 7 (dk_at dksX1_years_1 13 rfl rfl)
theorem dX1_years_39 : decode cX1_years 39 = .ok (.iconst 0, 1) := dk_3 (dk_at dksX1_years_1 15 rfl rfl)
theorem dX1_years_40 : decode cX1_years 40 = .ok (.istore 8, 2) := dk_54 8 (dk_at dksX1_years_1 16 rfl rfl)
theorem dX1_years_42 : decode cX1_years 42 = .ok (.iload 8, 2) := dk_21 8 (dk_at dksX1_years_1 18 rfl rfl)
theorem dX1_years_44 : decode cX1_years 44 = .ok (.iload_n 2, 1) := dk_28 (dk_at dksX1_years_1 20 rfl rfl)
theorem dX1_years_45 : decode cX1_years 45 = .ok (.if_icmp .ge 98, 3) := dk_162 0 98 (dk_at dksX1_years_1 21 rfl rfl)
theorem dX1_years_48 : decode cX1_years 48 = .ok (.aload 4, 2) := dk_25 4 (dk_at dksX1_years_2 0 rfl rfl)
theorem dX1_years_50 : decode cX1_years 50 = .ok (.aload 4, 2) := dk_25 4 (dk_at dksX1_years_2 2 rfl rfl)
theorem dX1_years_52 : decode cX1_years 52 = .ok (.getfield 299, 3) := dk_180 1 43 (dk_at dksX1_years_2 4 rfl rfl)
theorem dX1_years_55 : decode cX1_years 55 = .ok (.iconst 1, 1) := dk_4 (dk_at dksX1_years_2 7 rfl rfl)
theorem dX1_years_56 : decode cX1_years 56 = .ok (.iadd, 1) := dk_96 (dk_at dksX1_years_2 8 rfl rfl)
theorem dX1_years_57 : decode cX1_years 57 = .ok (.bipush 8, 2) := dk_16 8 (dk_at dksX1_years_2 9 rfl rfl)
theorem dX1_years_59 : decode cX1_years 59 = .ok (.irem, 1) := dk_112 (dk_at dksX1_years_2 11 rfl rfl)
theorem dX1_years_60 : decode cX1_years 60 = .ok (.putfield 299, 3) := dk_181 1 43 (dk_at dksX1_years_2 12 rfl rfl)
theorem dX1_years_63 : decode cX1_years 63 = .ok (.aload 4, 2) := dk_25 4 (dk_at dksX1_years_2 15 rfl rfl)
theorem dX1_years_65 : decode cX1_years 65 = .ok (.aload_n 0, 1) := dk_42 (dk_at dksX1_years_2 17 rfl rfl)
theorem dX1_years_66 : decode cX1_years 66 = .ok (.iconst 4, 1) := dk_7 (dk_at dksX1_years_2 18 rfl rfl)
theorem dX1_years_67 : decode cX1_years 67 = .ok (.invokevirtual 310, 3) := dk_182 1 54 (dk_at dksX1_years_2 19 rfl rfl)
theorem dX1_years_70 : decode cX1_years 70 = .ok (.ifCond .ne 7, 3) := dk_154 0 7 (dk_at dksX1_years_3 0 rfl rfl)
theorem dX1_years_73 : decode cX1_years 73 = .ok (.iconst 1, 1) := dk_4 (dk_at dksX1_years_3 3 rfl rfl)
theorem dX1_years_74 : decode cX1_years 74 = .ok (.goto 4, 3) := dk_167 0 4 (dk_at dksX1_years_3 4 rfl rfl)
theorem dX1_years_77 : decode cX1_years 77 = .ok (.iconst 0, 1) := dk_3 (dk_at dksX1_years_3 7 rfl rfl)
theorem dX1_years_78 : decode cX1_years 78 = .ok (.putfield 313, 3) := dk_181 1 57 (dk_at dksX1_years_3 8 rfl rfl)
theorem dX1_years_81 : decode cX1_years 81 = .ok (.aload 4, 2) := dk_25 4 (dk_at dksX1_years_3 11 rfl rfl)
theorem dX1_years_83 : decode cX1_years 83 = .ok (.invokevirtual 105, 3) := dk_182 0 105 (dk_at dksX1_years_3 13 rfl rfl)
theorem dX1_years_86 : decode cX1_years 86 = .ok (.invokevirtual 131, 3) := dk_182 0 131 (dk_at dksX1_years_3 16 rfl rfl)
theorem dX1_years_89 : decode cX1_years 89 = .ok (.istore 9, 2) := dk_54 9 (dk_at dksX1_years_3 19 rfl rfl)
theorem dX1_years_91 : decode cX1_years 91 = .ok (.iload 5, 2) := dk_21 5 (dk_at dksX1_years_3 21 rfl rfl)
theorem dX1_years_93 : decode cX1_years 93 = .ok (.iload 9, 2) := dk_21 9 (dk_at dksX1_years_4 0 rfl rfl)
theorem dX1_years_95 : decode cX1_years 95 = .ok (.iadd, 1) := dk_96 (dk_at dksX1_years_4 2 rfl rfl)
theorem dX1_years_96 : decode cX1_years 96 = .ok (.istore 5, 2) := dk_54 5 (dk_at dksX1_years_4 3 rfl rfl)
theorem dX1_years_98 : decode cX1_years 98 = .ok (.iload 8, 2) := dk_21 8 (dk_at dksX1_years_4 5 rfl rfl)
theorem dX1_years_100 : decode cX1_years 100 = .ok (.ifCond .ne 8, 3) := dk_154 0 8 (dk_at dksX1_years_4 7 rfl rfl)
theorem dX1_years_103 : decode cX1_years 103 = .ok (.iload 9, 2) := dk_21 9 (dk_at dksX1_years_4 10 rfl rfl)
theorem dX1_years_105 : decode cX1_years 105 = .ok (.goto 10, 3) := dk_167 0 10 (dk_at dksX1_years_4 12 rfl rfl)
theorem dX1_years_108 : decode cX1_years 108 = .ok (.iload 6, 2) := dk_21 6 (dk_at dksX1_years_4 15 rfl rfl)
theorem dX1_years_110 : decode cX1_years 110 = .ok (.iload 9, 2) := dk_21 9 (dk_at dksX1_years_4 17 rfl rfl)
theorem dX1_years_112 : decode cX1_years 112 = .ok (.invokestatic 242, 3) := dk_184 0 242 (dk_at dksX1_years_4 19 rfl rfl)
theorem dX1_years_115 : decode cX1_years 115 = .ok (.istore 6, 2) := dk_54 6 (dk_at dksX1_years_4 22 rfl rfl)
theorem dX1_years_117 : decode cX1_years 117 = .ok (.iload 9, 2) := dk_21 9 (dk_at dksX1_years_5 0 rfl rfl)
theorem dX1_years_119 : decode cX1_years 119 = .ok (.aload_n 0, 1) := dk_42 (dk_at dksX1_years_5 2 rfl rfl)
theorem dX1_years_120 : decode cX1_years 120 = .ok (.getfield 19, 3) := dk_180 0 19 (dk_at dksX1_years_5 3 rfl rfl)
theorem dX1_years_123 : decode cX1_years 123 = .ok (.getfield 122, 3) := dk_180 0 122 (dk_at dksX1_years_5 6 rfl rfl)
theorem dX1_years_126 : decode cX1_years 126 = .ok (.invokeinterface 118 1, 5) := by decide +kernel
theorem dX1_years_131 : decode cX1_years 131 = .ok (.if_icmp .ne 6, 3) := dk_160 0 6 (dk_at dksX1_years_5 14 rfl rfl)
theorem dX1_years_134 : decode cX1_years 134 = .ok (.iinc 7 1, 3) := dk_132 7 1 (dk_at dksX1_years_5 17 rfl rfl)
theorem dX1_years_137 : decode cX1_years 137 = .ok (.iinc 8 1, 3) := dk_132 8 1 (dk_at dksX1_years_5 20 rfl rfl)
theorem dX1_years_140 : decode cX1_years 140 = .ok (.goto (-98), 3) := dk_167 255 158 (dk_at dksX1_years_6 0 rfl rfl)
theorem dX1_years_143 : decode cX1_years 143 = .ok (.iload_n 3, 1) := dk_29 (dk_at dksX1_years_6 3 rfl rfl)
theorem dX1_years_144 : decode cX1_years 144 = .ok (.ifCond .ne 8, 3) := dk_154 0 8 (dk_at dksX1_years_6 4 rfl rfl)
theorem dX1_years_147 : decode cX1_years 147 = .ok (.iload 5, 2) := dk_21 5 (dk_at dksX1_years_6 7 rfl rfl)
theorem dX1_years_149 : decode cX1_years 149 = .ok (.goto 15, 3) := dk_167 0 15 (dk_at dksX1_years_6 9 rfl rfl)
theorem dX1_years_152 : decode cX1_years 152 = .ok (.iload_n 3, 1) := dk_29 (dk_at dksX1_years_6 12 rfl rfl)
theorem dX1_years_153 : decode cX1_years 153 = .ok (.iconst 1, 1) := dk_4 (dk_at dksX1_years_6 13 rfl rfl)
theorem dX1_years_154 : decode cX1_years 154 = .ok (.if_icmp .ne 8, 3) := dk_160 0 8 (dk_at dksX1_years_6 14 rfl rfl)
theorem dX1_years_157 : decode cX1_years 157 = .ok (.iload 6, 2) := dk_21 6 (dk_at dksX1_years_6 17 rfl rfl)
theorem dX1_years_159 : decode cX1_years 159 = .ok (.goto 5, 3) := dk_167 0 5 (dk_at dksX1_years_6 19 rfl rfl)
theorem dX1_years_162 : decode cX1_years 162 = .ok (.iload 7, 2) := dk_21 7 (dk_at dksX1_years_6 22 rfl rfl)
theorem dX1_years_164 : decode cX1_years 164 = .ok (.ireturn, 1) := dk_172 (dk_at dksX1_years_7 0 rfl rfl)
abbrev cX1_draw : ByteArray := prog_1_method_59_code
def yX1_draw : MethodName := ⟨RX1, "draw", "(I)I"⟩
def dkwX1_draw_1 : List UInt8 := [17, 127, 255, 126, 27, 112, 172]
abbrev dktX1_draw_1 : List UInt8 := dkwX1_draw_1 ++ []
def dkwX1_draw_0 : List UInt8 := [42, 42, 180, 1, 50, 19, 1, 53, 104, 17, 48, 57, 96, 181, 1, 50, 42, 180, 1, 50, 16, 16, 122]
abbrev dktX1_draw_0 : List UInt8 := dkwX1_draw_0 ++ dktX1_draw_1
theorem dksX1_draw_0 : cX1_draw.data.toList.drop 0 = dktX1_draw_0 := by decide +kernel
theorem dksX1_draw_1 : cX1_draw.data.toList.drop 23 = dktX1_draw_1 := dk_seg dksX1_draw_0 23 rfl rfl
theorem dX1_draw_0 : decode cX1_draw 0 = .ok (.aload_n 0, 1) := dk_42 (dk_at dksX1_draw_0 0 rfl rfl)
theorem dX1_draw_1 : decode cX1_draw 1 = .ok (.aload_n 0, 1) := dk_42 (dk_at dksX1_draw_0 1 rfl rfl)
theorem dX1_draw_2 : decode cX1_draw 2 = .ok (.getfield 306, 3) := dk_180 1 50 (dk_at dksX1_draw_0 2 rfl rfl)
theorem dX1_draw_5 : decode cX1_draw 5 = .ok (.ldc_w 309, 3) := dk_19 1 53 (dk_at dksX1_draw_0 5 rfl rfl)
theorem dX1_draw_8 : decode cX1_draw 8 = .ok (.imul, 1) := dk_104 (dk_at dksX1_draw_0 8 rfl rfl)
theorem dX1_draw_9 : decode cX1_draw 9 = .ok (.sipush 12345, 3) := dk_17 48 57 (dk_at dksX1_draw_0 9 rfl rfl)
theorem dX1_draw_12 : decode cX1_draw 12 = .ok (.iadd, 1) := dk_96 (dk_at dksX1_draw_0 12 rfl rfl)
theorem dX1_draw_13 : decode cX1_draw 13 = .ok (.putfield 306, 3) := dk_181 1 50 (dk_at dksX1_draw_0 13 rfl rfl)
theorem dX1_draw_16 : decode cX1_draw 16 = .ok (.aload_n 0, 1) := dk_42 (dk_at dksX1_draw_0 16 rfl rfl)
theorem dX1_draw_17 : decode cX1_draw 17 = .ok (.getfield 306, 3) := dk_180 1 50 (dk_at dksX1_draw_0 17 rfl rfl)
theorem dX1_draw_20 : decode cX1_draw 20 = .ok (.bipush 16, 2) := dk_16 16 (dk_at dksX1_draw_0 20 rfl rfl)
theorem dX1_draw_22 : decode cX1_draw 22 = .ok (.ishr, 1) := dk_122 (dk_at dksX1_draw_0 22 rfl rfl)
theorem dX1_draw_23 : decode cX1_draw 23 = .ok (.sipush 32767, 3) := dk_17 127 255 (dk_at dksX1_draw_1 0 rfl rfl)
theorem dX1_draw_26 : decode cX1_draw 26 = .ok (.iand, 1) := dk_126 (dk_at dksX1_draw_1 3 rfl rfl)
theorem dX1_draw_27 : decode cX1_draw 27 = .ok (.iload_n 1, 1) := dk_27 (dk_at dksX1_draw_1 4 rfl rfl)
theorem dX1_draw_28 : decode cX1_draw 28 = .ok (.irem, 1) := dk_112 (dk_at dksX1_draw_1 5 rfl rfl)
theorem dX1_draw_29 : decode cX1_draw 29 = .ok (.ireturn, 1) := dk_172 (dk_at dksX1_draw_1 6 rfl rfl)
abbrev cX1_reach : ByteArray := prog_1_method_52_code
def yX1_reach : MethodName := ⟨RX1, "reach", "(II)I"⟩
def dkwX1_reach_3 : List UInt8 := [132, 6, 1, 167, 255, 207, 21, 5, 172]
abbrev dktX1_reach_3 : List UInt8 := dkwX1_reach_3 ++ []
def dkwX1_reach_2 : List UInt8 := [25, 4, 180, 1, 40, 21, 6, 46, 18, 12, 162, 0, 12, 21, 5, 4, 21, 6, 120, 128, 54, 5]
abbrev dktX1_reach_2 : List UInt8 := dkwX1_reach_2 ++ dktX1_reach_3
def dkwX1_reach_1 : List UInt8 := [21, 6, 42, 180, 0, 19, 180, 0, 109, 162, 0, 43, 25, 4, 180, 1, 40, 21, 6, 46, 28, 163, 0, 25]
abbrev dktX1_reach_1 : List UInt8 := dkwX1_reach_1 ++ dktX1_reach_2
def dkwX1_reach_0 : List UInt8 := [42, 27, 182, 0, 199, 78, 42, 182, 0, 128, 58, 4, 25, 4, 45, 182, 1, 36, 3, 54, 5, 3, 54, 6]
abbrev dktX1_reach_0 : List UInt8 := dkwX1_reach_0 ++ dktX1_reach_1
theorem dksX1_reach_0 : cX1_reach.data.toList.drop 0 = dktX1_reach_0 := by decide +kernel
theorem dksX1_reach_1 : cX1_reach.data.toList.drop 24 = dktX1_reach_1 := dk_seg dksX1_reach_0 24 rfl rfl
theorem dksX1_reach_2 : cX1_reach.data.toList.drop 48 = dktX1_reach_2 := dk_seg dksX1_reach_1 24 rfl rfl
theorem dksX1_reach_3 : cX1_reach.data.toList.drop 70 = dktX1_reach_3 := dk_seg dksX1_reach_2 22 rfl rfl
theorem dX1_reach_0 : decode cX1_reach 0 = .ok (.aload_n 0, 1) := dk_42 (dk_at dksX1_reach_0 0 rfl rfl)
theorem dX1_reach_1 : decode cX1_reach 1 = .ok (.iload_n 1, 1) := dk_27 (dk_at dksX1_reach_0 1 rfl rfl)
theorem dX1_reach_2 : decode cX1_reach 2 = .ok (.invokevirtual 199, 3) := dk_182 0 199 (dk_at dksX1_reach_0 2 rfl rfl)
theorem dX1_reach_5 : decode cX1_reach 5 = .ok (.astore_n 3, 1) := dk_78 (dk_at dksX1_reach_0 5 rfl rfl)
theorem dX1_reach_6 : decode cX1_reach 6 = .ok (.aload_n 0, 1) := dk_42 (dk_at dksX1_reach_0 6 rfl rfl)
theorem dX1_reach_7 : decode cX1_reach 7 = .ok (.invokevirtual 128, 3) := dk_182 0 128 (dk_at dksX1_reach_0 7 rfl rfl)
theorem dX1_reach_10 : decode cX1_reach 10 = .ok (.astore 4, 2) := dk_58 4 (dk_at dksX1_reach_0 10 rfl rfl)
theorem dX1_reach_12 : decode cX1_reach 12 = .ok (.aload 4, 2) := dk_25 4 (dk_at dksX1_reach_0 12 rfl rfl)
theorem dX1_reach_14 : decode cX1_reach 14 = .ok (.aload_n 3, 1) := dk_45 (dk_at dksX1_reach_0 14 rfl rfl)
theorem dX1_reach_15 : decode cX1_reach 15 = .ok (.invokevirtual 292, 3) := dk_182 1 36 (dk_at dksX1_reach_0 15 rfl rfl)
theorem dX1_reach_18 : decode cX1_reach 18 = .ok (.iconst 0, 1) := dk_3 (dk_at dksX1_reach_0 18 rfl rfl)
theorem dX1_reach_19 : decode cX1_reach 19 = .ok (.istore 5, 2) := dk_54 5 (dk_at dksX1_reach_0 19 rfl rfl)
theorem dX1_reach_21 : decode cX1_reach 21 = .ok (.iconst 0, 1) := dk_3 (dk_at dksX1_reach_0 21 rfl rfl)
theorem dX1_reach_22 : decode cX1_reach 22 = .ok (.istore 6, 2) := dk_54 6 (dk_at dksX1_reach_0 22 rfl rfl)
theorem dX1_reach_24 : decode cX1_reach 24 = .ok (.iload 6, 2) := dk_21 6 (dk_at dksX1_reach_1 0 rfl rfl)
theorem dX1_reach_26 : decode cX1_reach 26 = .ok (.aload_n 0, 1) := dk_42 (dk_at dksX1_reach_1 2 rfl rfl)
theorem dX1_reach_27 : decode cX1_reach 27 = .ok (.getfield 19, 3) := dk_180 0 19 (dk_at dksX1_reach_1 3 rfl rfl)
theorem dX1_reach_30 : decode cX1_reach 30 = .ok (.getfield 109, 3) := dk_180 0 109 (dk_at dksX1_reach_1 6 rfl rfl)
theorem dX1_reach_33 : decode cX1_reach 33 = .ok (.if_icmp .ge 43, 3) := dk_162 0 43 (dk_at dksX1_reach_1 9 rfl rfl)
theorem dX1_reach_36 : decode cX1_reach 36 = .ok (.aload 4, 2) := dk_25 4 (dk_at dksX1_reach_1 12 rfl rfl)
theorem dX1_reach_38 : decode cX1_reach 38 = .ok (.getfield 296, 3) := dk_180 1 40 (dk_at dksX1_reach_1 14 rfl rfl)
theorem dX1_reach_41 : decode cX1_reach 41 = .ok (.iload 6, 2) := dk_21 6 (dk_at dksX1_reach_1 17 rfl rfl)
theorem dX1_reach_43 : decode cX1_reach 43 = .ok (.iaload, 1) := dk_46 (dk_at dksX1_reach_1 19 rfl rfl)
theorem dX1_reach_44 : decode cX1_reach 44 = .ok (.iload_n 2, 1) := dk_28 (dk_at dksX1_reach_1 20 rfl rfl)
theorem dX1_reach_45 : decode cX1_reach 45 = .ok (.if_icmp .gt 25, 3) := dk_163 0 25 (dk_at dksX1_reach_1 21 rfl rfl)
theorem dX1_reach_48 : decode cX1_reach 48 = .ok (.aload 4, 2) := dk_25 4 (dk_at dksX1_reach_2 0 rfl rfl)
theorem dX1_reach_50 : decode cX1_reach 50 = .ok (.getfield 296, 3) := dk_180 1 40 (dk_at dksX1_reach_2 2 rfl rfl)
theorem dX1_reach_53 : decode cX1_reach 53 = .ok (.iload 6, 2) := dk_21 6 (dk_at dksX1_reach_2 5 rfl rfl)
theorem dX1_reach_55 : decode cX1_reach 55 = .ok (.iaload, 1) := dk_46 (dk_at dksX1_reach_2 7 rfl rfl)
theorem dX1_reach_56 : decode cX1_reach 56 = .ok (.ldc 12, 2) := dk_18 12 (dk_at dksX1_reach_2 8 rfl rfl)
theorem dX1_reach_58 : decode cX1_reach 58 = .ok (.if_icmp .ge 12, 3) := dk_162 0 12 (dk_at dksX1_reach_2 10 rfl rfl)
theorem dX1_reach_61 : decode cX1_reach 61 = .ok (.iload 5, 2) := dk_21 5 (dk_at dksX1_reach_2 13 rfl rfl)
theorem dX1_reach_63 : decode cX1_reach 63 = .ok (.iconst 1, 1) := dk_4 (dk_at dksX1_reach_2 15 rfl rfl)
theorem dX1_reach_64 : decode cX1_reach 64 = .ok (.iload 6, 2) := dk_21 6 (dk_at dksX1_reach_2 16 rfl rfl)
theorem dX1_reach_66 : decode cX1_reach 66 = .ok (.ishl, 1) := dk_120 (dk_at dksX1_reach_2 18 rfl rfl)
theorem dX1_reach_67 : decode cX1_reach 67 = .ok (.ior, 1) := dk_128 (dk_at dksX1_reach_2 19 rfl rfl)
theorem dX1_reach_68 : decode cX1_reach 68 = .ok (.istore 5, 2) := dk_54 5 (dk_at dksX1_reach_2 20 rfl rfl)
theorem dX1_reach_70 : decode cX1_reach 70 = .ok (.iinc 6 1, 3) := dk_132 6 1 (dk_at dksX1_reach_3 0 rfl rfl)
theorem dX1_reach_73 : decode cX1_reach 73 = .ok (.goto (-49), 3) := dk_167 255 207 (dk_at dksX1_reach_3 3 rfl rfl)
theorem dX1_reach_76 : decode cX1_reach 76 = .ok (.iload 5, 2) := dk_21 5 (dk_at dksX1_reach_3 6 rfl rfl)
theorem dX1_reach_78 : decode cX1_reach 78 = .ok (.ireturn, 1) := dk_172 (dk_at dksX1_reach_3 8 rfl rfl)
abbrev cX1_late : ByteArray := prog_1_method_53_code
def yX1_late : MethodName := ⟨RX1, "late", "(I)I"⟩
def dkwX1_late_3 : List UInt8 := [167, 255, 221, 44, 21, 5, 181, 0, 171, 21, 6, 172]
abbrev dktX1_late_3 : List UInt8 := dkwX1_late_3 ++ []
def dkwX1_late_2 : List UInt8 := [96, 181, 0, 171, 45, 182, 0, 105, 182, 0, 131, 21, 4, 161, 0, 7, 21, 7, 54, 6, 132, 7, 1]
abbrev dktX1_late_2 : List UInt8 := dkwX1_late_2 ++ dktX1_late_3
def dkwX1_late_1 : List UInt8 := [44, 180, 0, 171, 54, 5, 3, 54, 6, 4, 54, 7, 21, 7, 16, 60, 163, 0, 34, 44, 21, 5, 21, 7]
abbrev dktX1_late_1 : List UInt8 := dkwX1_late_1 ++ dktX1_late_2
def dkwX1_late_0 : List UInt8 := [42, 27, 182, 0, 166, 77, 187, 0, 100, 89, 42, 183, 0, 102, 78, 45, 182, 0, 105, 182, 0, 131, 54, 4]
abbrev dktX1_late_0 : List UInt8 := dkwX1_late_0 ++ dktX1_late_1
theorem dksX1_late_0 : cX1_late.data.toList.drop 0 = dktX1_late_0 := by decide +kernel
theorem dksX1_late_1 : cX1_late.data.toList.drop 24 = dktX1_late_1 := dk_seg dksX1_late_0 24 rfl rfl
theorem dksX1_late_2 : cX1_late.data.toList.drop 48 = dktX1_late_2 := dk_seg dksX1_late_1 24 rfl rfl
theorem dksX1_late_3 : cX1_late.data.toList.drop 71 = dktX1_late_3 := dk_seg dksX1_late_2 23 rfl rfl
theorem dX1_late_0 : decode cX1_late 0 = .ok (.aload_n 0, 1) := dk_42 (dk_at dksX1_late_0 0 rfl rfl)
theorem dX1_late_1 : decode cX1_late 1 = .ok (.iload_n 1, 1) := dk_27 (dk_at dksX1_late_0 1 rfl rfl)
theorem dX1_late_2 : decode cX1_late 2 = .ok (.invokevirtual 166, 3) := dk_182 0 166 (dk_at dksX1_late_0 2 rfl rfl)
theorem dX1_late_5 : decode cX1_late 5 = .ok (.astore_n 2, 1) := dk_77 (dk_at dksX1_late_0 5 rfl rfl)
theorem dX1_late_6 : decode cX1_late 6 = .ok (.new 100, 3) := dk_187 0 100 (dk_at dksX1_late_0 6 rfl rfl)
theorem dX1_late_9 : decode cX1_late 9 = .ok (.dup, 1) := dk_89 (dk_at dksX1_late_0 9 rfl rfl)
theorem dX1_late_10 : decode cX1_late 10 = .ok (.aload_n 0, 1) := dk_42 (dk_at dksX1_late_0 10 rfl rfl)
theorem dX1_late_11 : decode cX1_late 11 = .ok (.invokespecial 102, 3) := dk_183 0 102 (dk_at dksX1_late_0 11 rfl rfl)
theorem dX1_late_14 : decode cX1_late 14 = .ok (.astore_n 3, 1) := dk_78 (dk_at dksX1_late_0 14 rfl rfl)
theorem dX1_late_15 : decode cX1_late 15 = .ok (.aload_n 3, 1) := dk_45 (dk_at dksX1_late_0 15 rfl rfl)
theorem dX1_late_16 : decode cX1_late 16 = .ok (.invokevirtual 105, 3) := dk_182 0 105 (dk_at dksX1_late_0 16 rfl rfl)
theorem dX1_late_19 : decode cX1_late 19 = .ok (.invokevirtual 131, 3) := dk_182 0 131 (dk_at dksX1_late_0 19 rfl rfl)
theorem dX1_late_22 : decode cX1_late 22 = .ok (.istore 4, 2) := dk_54 4 (dk_at dksX1_late_0 22 rfl rfl)
theorem dX1_late_24 : decode cX1_late 24 = .ok (.aload_n 2, 1) := dk_44 (dk_at dksX1_late_1 0 rfl rfl)
theorem dX1_late_25 : decode cX1_late 25 = .ok (.getfield 171, 3) := dk_180 0 171 (dk_at dksX1_late_1 1 rfl rfl)
theorem dX1_late_28 : decode cX1_late 28 = .ok (.istore 5, 2) := dk_54 5 (dk_at dksX1_late_1 4 rfl rfl)
theorem dX1_late_30 : decode cX1_late 30 = .ok (.iconst 0, 1) := dk_3 (dk_at dksX1_late_1 6 rfl rfl)
theorem dX1_late_31 : decode cX1_late 31 = .ok (.istore 6, 2) := dk_54 6 (dk_at dksX1_late_1 7 rfl rfl)
theorem dX1_late_33 : decode cX1_late 33 = .ok (.iconst 1, 1) := dk_4 (dk_at dksX1_late_1 9 rfl rfl)
theorem dX1_late_34 : decode cX1_late 34 = .ok (.istore 7, 2) := dk_54 7 (dk_at dksX1_late_1 10 rfl rfl)
theorem dX1_late_36 : decode cX1_late 36 = .ok (.iload 7, 2) := dk_21 7 (dk_at dksX1_late_1 12 rfl rfl)
theorem dX1_late_38 : decode cX1_late 38 = .ok (.bipush 60, 2) := dk_16 60 (dk_at dksX1_late_1 14 rfl rfl)
theorem dX1_late_40 : decode cX1_late 40 = .ok (.if_icmp .gt 34, 3) := dk_163 0 34 (dk_at dksX1_late_1 16 rfl rfl)
theorem dX1_late_43 : decode cX1_late 43 = .ok (.aload_n 2, 1) := dk_44 (dk_at dksX1_late_1 19 rfl rfl)
theorem dX1_late_44 : decode cX1_late 44 = .ok (.iload 5, 2) := dk_21 5 (dk_at dksX1_late_1 20 rfl rfl)
theorem dX1_late_46 : decode cX1_late 46 = .ok (.iload 7, 2) := dk_21 7 (dk_at dksX1_late_1 22 rfl rfl)
theorem dX1_late_48 : decode cX1_late 48 = .ok (.iadd, 1) := dk_96 (dk_at dksX1_late_2 0 rfl rfl)
theorem dX1_late_49 : decode cX1_late 49 = .ok (.putfield 171, 3) := dk_181 0 171 (dk_at dksX1_late_2 1 rfl rfl)
theorem dX1_late_52 : decode cX1_late 52 = .ok (.aload_n 3, 1) := dk_45 (dk_at dksX1_late_2 4 rfl rfl)
theorem dX1_late_53 : decode cX1_late 53 = .ok (.invokevirtual 105, 3) := dk_182 0 105 (dk_at dksX1_late_2 5 rfl rfl)
theorem dX1_late_56 : decode cX1_late 56 = .ok (.invokevirtual 131, 3) := dk_182 0 131 (dk_at dksX1_late_2 8 rfl rfl)
theorem dX1_late_59 : decode cX1_late 59 = .ok (.iload 4, 2) := dk_21 4 (dk_at dksX1_late_2 11 rfl rfl)
theorem dX1_late_61 : decode cX1_late 61 = .ok (.if_icmp .lt 7, 3) := dk_161 0 7 (dk_at dksX1_late_2 13 rfl rfl)
theorem dX1_late_64 : decode cX1_late 64 = .ok (.iload 7, 2) := dk_21 7 (dk_at dksX1_late_2 16 rfl rfl)
theorem dX1_late_66 : decode cX1_late 66 = .ok (.istore 6, 2) := dk_54 6 (dk_at dksX1_late_2 18 rfl rfl)
theorem dX1_late_68 : decode cX1_late 68 = .ok (.iinc 7 1, 3) := dk_132 7 1 (dk_at dksX1_late_2 20 rfl rfl)
theorem dX1_late_71 : decode cX1_late 71 = .ok (.goto (-35), 3) := dk_167 255 221 (dk_at dksX1_late_3 0 rfl rfl)
theorem dX1_late_74 : decode cX1_late 74 = .ok (.aload_n 2, 1) := dk_44 (dk_at dksX1_late_3 3 rfl rfl)
theorem dX1_late_75 : decode cX1_late 75 = .ok (.iload 5, 2) := dk_21 5 (dk_at dksX1_late_3 4 rfl rfl)
theorem dX1_late_77 : decode cX1_late 77 = .ok (.putfield 171, 3) := dk_181 0 171 (dk_at dksX1_late_3 6 rfl rfl)
theorem dX1_late_80 : decode cX1_late 80 = .ok (.iload 6, 2) := dk_21 6 (dk_at dksX1_late_3 9 rfl rfl)
theorem dX1_late_82 : decode cX1_late 82 = .ok (.ireturn, 1) := dk_172 (dk_at dksX1_late_3 11 rfl rfl)
theorem q111 : (Jvm.Cond.initialized "WingTrams") ∈ lw_all := lw_g (lw_at lw_m1 1 rfl) rfl
theorem q147 : (Jvm.Cond.instantiable "WingTrams" (17 : Nat)) ∈ lw_all := lw_g (lw_at lw_m1 37 rfl) rfl
theorem q149 : (Jvm.Cond.instanceMethod ({ cls := "WingTrams", name := "<init>", desc := "()V" } : Jvm.MethodName)) ∈ lw_all := lw_g (lw_at lw_m1 39 rfl) rfl
theorem q150 : (Jvm.Cond.code ({ cls := "WingTrams", name := "<init>", desc := "()V" } : Jvm.MethodName) prog_1_method_6_code (1 : Nat) (Option.none : Option Jvm.ClassFile.FieldType)) ∈ lw_all := lw_g (lw_at lw_m1 40 rfl) rfl
theorem q151 : (Jvm.Cond.methodLink "WingTrams" (13 : Nat) ({ cls := "java/lang/Object", name := "<init>", desc := "()V" } : Jvm.MethodName)) ∈ lw_all := lw_g (lw_at lw_m1 41 rfl) rfl
theorem q154 : (Jvm.Cond.classLink "WingTrams" (16 : Nat) "WingTrams$City") ∈ lw_all := lw_g (lw_at lw_m1 44 rfl) rfl
theorem q156 : (Jvm.Cond.methodLinkNest "WingTrams" (18 : Nat) ({ cls := "WingTrams$City", name := "<init>", desc := "()V" } : Jvm.MethodName) "WingTrams") ∈ lw_tbl := lw_at lw_m1 46 rfl
theorem q191 : (Jvm.Cond.fieldLinkNest "WingTrams" (156 : Nat) "WingTrams$City" "grain" "[I" "WingTrams") ∈ lw_tbl := lw_at lw_m1 81 rfl
theorem q195 : (Jvm.Cond.fieldLinkNest "WingTrams" (162 : Nat) "WingTrams$City" "minutes" "[[I" "WingTrams") ∈ lw_tbl := lw_at lw_m1 85 rfl
theorem q200 : (Jvm.Cond.fieldLinkNest "WingTrams" (115 : Nat) "WingTrams$City" "owls" "Ljava/util/List;" "WingTrams") ∈ lw_tbl := lw_at lw_m1 90 rfl
theorem q203 : (Jvm.Cond.fieldLinkNest "WingTrams" (122 : Nat) "WingTrams$City" "riders" "Ljava/util/List;" "WingTrams") ∈ lw_tbl := lw_at lw_m1 93 rfl
theorem q208 : (Jvm.Cond.fieldLinkNest "WingTrams" (75 : Nat) "WingTrams$City" "hunts" "Ljava/util/List;" "WingTrams") ∈ lw_tbl := lw_at lw_m1 98 rfl
theorem q212 : (Jvm.Cond.fieldLinkNest "WingTrams" (109 : Nat) "WingTrams$City" "roofs" "I" "WingTrams") ∈ lw_tbl := lw_at lw_m1 102 rfl
theorem q214 : (Jvm.Cond.fieldLinkNest "WingTrams" (112 : Nat) "WingTrams$City" "flights" "I" "WingTrams") ∈ lw_tbl := lw_at lw_m1 104 rfl
theorem q219 : (Jvm.Cond.fieldLinkNest "WingTrams" (125 : Nat) "WingTrams$City" "dawn" "I" "WingTrams") ∈ lw_tbl := lw_at lw_m1 109 rfl
theorem q238 : (Jvm.Cond.classLink "WingTrams" (41 : Nat) "java/util/ArrayList") ∈ lw_all := lw_g (lw_at lw_m1 128 rfl) rfl
theorem q239 : (Jvm.Cond.methodLink "WingTrams" (43 : Nat) ({ cls := "java/util/ArrayList", name := "<init>", desc := "()V" } : Jvm.MethodName)) ∈ lw_all := lw_g (lw_at lw_m1 129 rfl) rfl
theorem q242 : (Jvm.Cond.fieldLink "WingTrams" (19 : Nat) "WingTrams" "city" "LWingTrams$City;") ∈ lw_all := lw_g (lw_at lw_m1 132 rfl) rfl
theorem q244 : (Jvm.Cond.fieldLink "WingTrams" (23 : Nat) "WingTrams" "values" "[I") ∈ lw_all := lw_g (lw_at lw_m1 134 rfl) rfl
theorem q246 : (Jvm.Cond.fieldLink "WingTrams" (27 : Nat) "WingTrams" "inForce" "I") ∈ lw_all := lw_g (lw_at lw_m1 136 rfl) rfl
theorem q248 : (Jvm.Cond.fieldLink "WingTrams" (84 : Nat) "WingTrams" "moonNow" "I") ∈ lw_all := lw_g (lw_at lw_m1 138 rfl) rfl
theorem q250 : (Jvm.Cond.fieldLink "WingTrams" (87 : Nat) "WingTrams" "nestsNow" "I") ∈ lw_all := lw_g (lw_at lw_m1 140 rfl) rfl
theorem q252 : (Jvm.Cond.fieldLink "WingTrams" (90 : Nat) "WingTrams" "wetNow" "Z") ∈ lw_all := lw_g (lw_at lw_m1 142 rfl) rfl
theorem q254 : (Jvm.Cond.fieldLink "WingTrams" (31 : Nat) "WingTrams" "tape" "[B") ∈ lw_all := lw_g (lw_at lw_m1 144 rfl) rfl
theorem q255 : (Jvm.Cond.fieldLink "WingTrams" (51 : Nat) "WingTrams" "taped" "I") ∈ lw_all := lw_g (lw_at lw_m1 145 rfl) rfl
theorem q256 : (Jvm.Cond.fieldLink "WingTrams" (35 : Nat) "WingTrams" "faultPlace" "I") ∈ lw_all := lw_g (lw_at lw_m1 146 rfl) rfl
theorem q257 : (Jvm.Cond.fieldLink "WingTrams" (38 : Nat) "WingTrams" "refused" "[I") ∈ lw_all := lw_g (lw_at lw_m1 147 rfl) rfl
theorem q258 : (Jvm.Cond.fieldLink "WingTrams" (44 : Nat) "WingTrams" "acts" "Ljava/util/List;") ∈ lw_all := lw_g (lw_at lw_m1 148 rfl) rfl
theorem q259 : (Jvm.Cond.fieldLink "WingTrams" (48 : Nat) "WingTrams" "seen" "Ljava/util/List;") ∈ lw_all := lw_g (lw_at lw_m1 149 rfl) rfl
theorem q260 : (Jvm.Cond.fieldLink "WingTrams" (94 : Nat) "WingTrams" "moreKept" "[I") ∈ lw_all := lw_g (lw_at lw_m1 150 rfl) rfl
theorem q261 : (Jvm.Cond.fieldLink "WingTrams" (97 : Nat) "WingTrams" "settingsThen" "[I") ∈ lw_all := lw_g (lw_at lw_m1 151 rfl) rfl
theorem q262 : (Jvm.Cond.fieldLink "WingTrams" (323 : Nat) "WingTrams" "actsThen" "Ljava/util/List;") ∈ lw_all := lw_g (lw_at lw_m1 152 rfl) rfl
theorem q263 : (Jvm.Cond.fieldLink "WingTrams" (326 : Nat) "WingTrams" "seenThen" "Ljava/util/List;") ∈ lw_all := lw_g (lw_at lw_m1 153 rfl) rfl
theorem q264 : (Jvm.Cond.fieldLink "WingTrams" (306 : Nat) "WingTrams" "seed" "I") ∈ lw_all := lw_g (lw_at lw_m1 154 rfl) rfl
theorem q265 : (Jvm.Cond.lays "WingTrams" "WingTrams" "city" "LWingTrams$City;") ∈ lw_all := lw_g (lw_at lw_m1 155 rfl) rfl
theorem q266 : (Jvm.Cond.soleField "WingTrams" "city") ∈ lw_all := lw_g (lw_at lw_m1 156 rfl) rfl
theorem q267 : (Jvm.Cond.laysFinal "WingTrams" "WingTrams" "values" "[I") ∈ lw_all := lw_g (lw_at lw_m1 157 rfl) rfl
theorem q268 : (Jvm.Cond.soleField "WingTrams" "values") ∈ lw_all := lw_g (lw_at lw_m1 158 rfl) rfl
theorem q269 : (Jvm.Cond.lays "WingTrams" "WingTrams" "inForce" "I") ∈ lw_all := lw_g (lw_at lw_m1 159 rfl) rfl
theorem q270 : (Jvm.Cond.soleField "WingTrams" "inForce") ∈ lw_all := lw_g (lw_at lw_m1 160 rfl) rfl
theorem q271 : (Jvm.Cond.lays "WingTrams" "WingTrams" "moonNow" "I") ∈ lw_all := lw_g (lw_at lw_m1 161 rfl) rfl
theorem q272 : (Jvm.Cond.soleField "WingTrams" "moonNow") ∈ lw_all := lw_g (lw_at lw_m1 162 rfl) rfl
theorem q273 : (Jvm.Cond.lays "WingTrams" "WingTrams" "nestsNow" "I") ∈ lw_all := lw_g (lw_at lw_m1 163 rfl) rfl
theorem q274 : (Jvm.Cond.soleField "WingTrams" "nestsNow") ∈ lw_all := lw_g (lw_at lw_m1 164 rfl) rfl
theorem q275 : (Jvm.Cond.lays "WingTrams" "WingTrams" "wetNow" "Z") ∈ lw_all := lw_g (lw_at lw_m1 165 rfl) rfl
theorem q276 : (Jvm.Cond.soleField "WingTrams" "wetNow") ∈ lw_all := lw_g (lw_at lw_m1 166 rfl) rfl
theorem q277 : (Jvm.Cond.laysFinal "WingTrams" "WingTrams" "tape" "[B") ∈ lw_all := lw_g (lw_at lw_m1 167 rfl) rfl
theorem q278 : (Jvm.Cond.soleField "WingTrams" "tape") ∈ lw_all := lw_g (lw_at lw_m1 168 rfl) rfl
theorem q279 : (Jvm.Cond.lays "WingTrams" "WingTrams" "taped" "I") ∈ lw_all := lw_g (lw_at lw_m1 169 rfl) rfl
theorem q280 : (Jvm.Cond.soleField "WingTrams" "taped") ∈ lw_all := lw_g (lw_at lw_m1 170 rfl) rfl
theorem q281 : (Jvm.Cond.lays "WingTrams" "WingTrams" "faultPlace" "I") ∈ lw_all := lw_g (lw_at lw_m1 171 rfl) rfl
theorem q282 : (Jvm.Cond.soleField "WingTrams" "faultPlace") ∈ lw_all := lw_g (lw_at lw_m1 172 rfl) rfl
theorem q283 : (Jvm.Cond.laysFinal "WingTrams" "WingTrams" "refused" "[I") ∈ lw_all := lw_g (lw_at lw_m1 173 rfl) rfl
theorem q284 : (Jvm.Cond.soleField "WingTrams" "refused") ∈ lw_all := lw_g (lw_at lw_m1 174 rfl) rfl
theorem q285 : (Jvm.Cond.lays "WingTrams" "WingTrams" "acts" "Ljava/util/List;") ∈ lw_all := lw_g (lw_at lw_m1 175 rfl) rfl
theorem q286 : (Jvm.Cond.soleField "WingTrams" "acts") ∈ lw_all := lw_g (lw_at lw_m1 176 rfl) rfl
theorem q287 : (Jvm.Cond.lays "WingTrams" "WingTrams" "seen" "Ljava/util/List;") ∈ lw_all := lw_g (lw_at lw_m1 177 rfl) rfl
theorem q288 : (Jvm.Cond.soleField "WingTrams" "seen") ∈ lw_all := lw_g (lw_at lw_m1 178 rfl) rfl
theorem q289 : (Jvm.Cond.lays "WingTrams" "WingTrams" "moreKept" "[I") ∈ lw_all := lw_g (lw_at lw_m1 179 rfl) rfl
theorem q290 : (Jvm.Cond.soleField "WingTrams" "moreKept") ∈ lw_all := lw_g (lw_at lw_m1 180 rfl) rfl
theorem q291 : (Jvm.Cond.lays "WingTrams" "WingTrams" "settingsThen" "[I") ∈ lw_all := lw_g (lw_at lw_m1 181 rfl) rfl
theorem q292 : (Jvm.Cond.soleField "WingTrams" "settingsThen") ∈ lw_all := lw_g (lw_at lw_m1 182 rfl) rfl
theorem q293 : (Jvm.Cond.lays "WingTrams" "WingTrams" "actsThen" "Ljava/util/List;") ∈ lw_all := lw_g (lw_at lw_m1 183 rfl) rfl
theorem q294 : (Jvm.Cond.soleField "WingTrams" "actsThen") ∈ lw_all := lw_g (lw_at lw_m1 184 rfl) rfl
theorem q295 : (Jvm.Cond.lays "WingTrams" "WingTrams" "seenThen" "Ljava/util/List;") ∈ lw_all := lw_g (lw_at lw_m1 185 rfl) rfl
theorem q296 : (Jvm.Cond.soleField "WingTrams" "seenThen") ∈ lw_all := lw_g (lw_at lw_m1 186 rfl) rfl
theorem q297 : (Jvm.Cond.lays "WingTrams" "WingTrams" "seed" "I") ∈ lw_all := lw_g (lw_at lw_m1 187 rfl) rfl
theorem q298 : (Jvm.Cond.soleField "WingTrams" "seed") ∈ lw_all := lw_g (lw_at lw_m1 188 rfl) rfl
theorem q299 : (Jvm.Cond.superclass "WingTrams" "java/lang/Object") ∈ lw_all := lw_g (lw_at lw_m1 189 rfl) rfl
theorem q302 : (Jvm.Cond.instanceMethod ({ cls := "WingTrams", name := "feed", desc := "(IIIII)I" } : Jvm.MethodName)) ∈ lw_all := lw_g (lw_at lw_m1 192 rfl) rfl
theorem q303 : (Jvm.Cond.selects "WingTrams" ({ cls := "WingTrams", name := "feed", desc := "(IIIII)I" } : Jvm.MethodName) ({ cls := "WingTrams", name := "feed", desc := "(IIIII)I" } : Jvm.MethodName)) ∈ lw_all := lw_g (lw_at lw_m1 193 rfl) rfl
theorem q304 : (Jvm.Cond.code ({ cls := "WingTrams", name := "feed", desc := "(IIIII)I" } : Jvm.MethodName) prog_1_method_7_code (8 : Nat) (Option.some Jvm.ClassFile.FieldType.int)) ∈ lw_all := lw_g (lw_at lw_m1 194 rfl) rfl
theorem q306 : (Jvm.Cond.instanceMethod ({ cls := "WingTrams", name := "fault", desc := "()I" } : Jvm.MethodName)) ∈ lw_all := lw_g (lw_at lw_m1 196 rfl) rfl
theorem q307 : (Jvm.Cond.selects "WingTrams" ({ cls := "WingTrams", name := "fault", desc := "()I" } : Jvm.MethodName) ({ cls := "WingTrams", name := "fault", desc := "()I" } : Jvm.MethodName)) ∈ lw_all := lw_g (lw_at lw_m1 197 rfl) rfl
theorem q308 : (Jvm.Cond.code ({ cls := "WingTrams", name := "fault", desc := "()I" } : Jvm.MethodName) prog_1_method_9_code (1 : Nat) (Option.some Jvm.ClassFile.FieldType.int)) ∈ lw_all := lw_g (lw_at lw_m1 198 rfl) rfl
theorem q310 : (Jvm.Cond.instanceMethod ({ cls := "WingTrams", name := "obey", desc := "(I)Z" } : Jvm.MethodName)) ∈ lw_all := lw_g (lw_at lw_m1 200 rfl) rfl
theorem q311 : (Jvm.Cond.selects "WingTrams" ({ cls := "WingTrams", name := "obey", desc := "(I)Z" } : Jvm.MethodName) ({ cls := "WingTrams", name := "obey", desc := "(I)Z" } : Jvm.MethodName)) ∈ lw_all := lw_g (lw_at lw_m1 201 rfl) rfl
theorem q312 : (Jvm.Cond.code ({ cls := "WingTrams", name := "obey", desc := "(I)Z" } : Jvm.MethodName) prog_1_method_25_code (2 : Nat) (Option.some Jvm.ClassFile.FieldType.boolean)) ∈ lw_all := lw_g (lw_at lw_m1 202 rfl) rfl
theorem q313 : (Jvm.Cond.interfaceEntry "WingTrams" (118 : Nat)) ∈ lw_tbl := lw_at lw_m1 203 rfl
theorem q314 : (Jvm.Cond.methodLink "WingTrams" (118 : Nat) ({ cls := "java/util/List", name := "size", desc := "()I" } : Jvm.MethodName)) ∈ lw_all := lw_g (lw_at lw_m1 204 rfl) rfl
theorem q323 : (Jvm.Cond.methodLink "WingTrams" (134 : Nat) ({ cls := "WingTrams", name := "in", desc := "(III)Z" } : Jvm.MethodName)) ∈ lw_all := lw_g (lw_at lw_m1 213 rfl) rfl
theorem q324 : (Jvm.Cond.static ({ cls := "WingTrams", name := "in", desc := "(III)Z" } : Jvm.MethodName)) ∈ lw_all := lw_g (lw_at lw_m1 214 rfl) rfl
theorem q325 : (Jvm.Cond.code ({ cls := "WingTrams", name := "in", desc := "(III)Z" } : Jvm.MethodName) prog_1_method_1_code (3 : Nat) (Option.some Jvm.ClassFile.FieldType.boolean)) ∈ lw_all := lw_g (lw_at lw_m1 215 rfl) rfl
theorem q326 : (Jvm.Cond.methodLink "WingTrams" (214 : Nat) ({ cls := "WingTrams", name := "keep", desc := "(III)V" } : Jvm.MethodName)) ∈ lw_all := lw_g (lw_at lw_m1 216 rfl) rfl
theorem q327 : (Jvm.Cond.privateMethod ({ cls := "WingTrams", name := "keep", desc := "(III)V" } : Jvm.MethodName)) ∈ lw_tbl := lw_at lw_m1 217 rfl
theorem q328 : (Jvm.Cond.instanceMethod ({ cls := "WingTrams", name := "keep", desc := "(III)V" } : Jvm.MethodName)) ∈ lw_all := lw_g (lw_at lw_m1 218 rfl) rfl
theorem q329 : (Jvm.Cond.code ({ cls := "WingTrams", name := "keep", desc := "(III)V" } : Jvm.MethodName) prog_1_method_23_code (4 : Nat) (Option.none : Option Jvm.ClassFile.FieldType)) ∈ lw_all := lw_g (lw_at lw_m1 219 rfl) rfl
theorem q330 : (Jvm.Cond.interfaceEntry "WingTrams" (207 : Nat)) ∈ lw_tbl := lw_at lw_m1 220 rfl
theorem q331 : (Jvm.Cond.methodLink "WingTrams" (207 : Nat) ({ cls := "java/util/List", name := "add", desc := "(Ljava/lang/Object;)Z" } : Jvm.MethodName)) ∈ lw_all := lw_g (lw_at lw_m1 221 rfl) rfl
theorem q367 : (Jvm.Cond.selects "WingTrams" ({ cls := "java/lang/Object", name := "getClass", desc := "()Ljava/lang/Class;" } : Jvm.MethodName) ({ cls := "java/lang/Object", name := "getClass", desc := "()Ljava/lang/Class;" } : Jvm.MethodName)) ∈ lw_all := lw_g (lw_at lw_m2 17 rfl) rfl
theorem q399 : (Jvm.Cond.interfaceEntry "WingTrams" (211 : Nat)) ∈ lw_tbl := lw_at lw_m2 49 rfl
theorem q400 : (Jvm.Cond.methodLink "WingTrams" (211 : Nat) ({ cls := "java/util/List", name := "remove", desc := "(I)Ljava/lang/Object;" } : Jvm.MethodName)) ∈ lw_all := lw_g (lw_at lw_m2 50 rfl) rfl
theorem q420 : (Jvm.Cond.instanceMethod ({ cls := "WingTrams", name := "moon", desc := "(I)I" } : Jvm.MethodName)) ∈ lw_all := lw_g (lw_at lw_m2 70 rfl) rfl
theorem q421 : (Jvm.Cond.selects "WingTrams" ({ cls := "WingTrams", name := "moon", desc := "(I)I" } : Jvm.MethodName) ({ cls := "WingTrams", name := "moon", desc := "(I)I" } : Jvm.MethodName)) ∈ lw_all := lw_g (lw_at lw_m2 71 rfl) rfl
theorem q422 : (Jvm.Cond.code ({ cls := "WingTrams", name := "moon", desc := "(I)I" } : Jvm.MethodName) prog_1_method_26_code (3 : Nat) (Option.some Jvm.ClassFile.FieldType.int)) ∈ lw_all := lw_g (lw_at lw_m2 72 rfl) rfl
theorem q423 : (Jvm.Cond.methodLink "WingTrams" (218 : Nat) ({ cls := "WingTrams", name := "refuse", desc := "(I)I" } : Jvm.MethodName)) ∈ lw_all := lw_g (lw_at lw_m2 73 rfl) rfl
theorem q424 : (Jvm.Cond.privateMethod ({ cls := "WingTrams", name := "refuse", desc := "(I)I" } : Jvm.MethodName)) ∈ lw_tbl := lw_at lw_m2 74 rfl
theorem q425 : (Jvm.Cond.instanceMethod ({ cls := "WingTrams", name := "refuse", desc := "(I)I" } : Jvm.MethodName)) ∈ lw_all := lw_g (lw_at lw_m2 75 rfl) rfl
theorem q426 : (Jvm.Cond.code ({ cls := "WingTrams", name := "refuse", desc := "(I)I" } : Jvm.MethodName) prog_1_method_24_code (2 : Nat) (Option.some Jvm.ClassFile.FieldType.int)) ∈ lw_all := lw_g (lw_at lw_m2 76 rfl) rfl
theorem q428 : (Jvm.Cond.instanceMethod ({ cls := "WingTrams", name := "wet", desc := "(Z)Z" } : Jvm.MethodName)) ∈ lw_all := lw_g (lw_at lw_m2 78 rfl) rfl
theorem q429 : (Jvm.Cond.selects "WingTrams" ({ cls := "WingTrams", name := "wet", desc := "(Z)Z" } : Jvm.MethodName) ({ cls := "WingTrams", name := "wet", desc := "(Z)Z" } : Jvm.MethodName)) ∈ lw_all := lw_g (lw_at lw_m2 79 rfl) rfl
theorem q430 : (Jvm.Cond.code ({ cls := "WingTrams", name := "wet", desc := "(Z)Z" } : Jvm.MethodName) prog_1_method_27_code (3 : Nat) (Option.some Jvm.ClassFile.FieldType.boolean)) ∈ lw_all := lw_g (lw_at lw_m2 80 rfl) rfl
theorem q432 : (Jvm.Cond.instanceMethod ({ cls := "WingTrams", name := "undo", desc := "()I" } : Jvm.MethodName)) ∈ lw_all := lw_g (lw_at lw_m2 82 rfl) rfl
theorem q433 : (Jvm.Cond.selects "WingTrams" ({ cls := "WingTrams", name := "undo", desc := "()I" } : Jvm.MethodName) ({ cls := "WingTrams", name := "undo", desc := "()I" } : Jvm.MethodName)) ∈ lw_all := lw_g (lw_at lw_m2 83 rfl) rfl
theorem q434 : (Jvm.Cond.code ({ cls := "WingTrams", name := "undo", desc := "()I" } : Jvm.MethodName) prog_1_method_31_code (2 : Nat) (Option.some Jvm.ClassFile.FieldType.int)) ∈ lw_all := lw_g (lw_at lw_m2 84 rfl) rfl
theorem q435 : (Jvm.Cond.interfaceEntry "WingTrams" (78 : Nat)) ∈ lw_tbl := lw_at lw_m2 85 rfl
theorem q436 : (Jvm.Cond.methodLink "WingTrams" (78 : Nat) ({ cls := "java/util/List", name := "isEmpty", desc := "()Z" } : Jvm.MethodName)) ∈ lw_all := lw_g (lw_at lw_m2 86 rfl) rfl
theorem q444 : (Jvm.Cond.classLink "WingTrams" (151 : Nat) "[I") ∈ lw_all := lw_g (lw_at lw_m2 94 rfl) rfl
theorem q445 : (Jvm.Cond.interfaceEntry "WingTrams" (145 : Nat)) ∈ lw_tbl := lw_at lw_m2 95 rfl
theorem q446 : (Jvm.Cond.methodLink "WingTrams" (145 : Nat) ({ cls := "java/util/List", name := "get", desc := "(I)Ljava/lang/Object;" } : Jvm.MethodName)) ∈ lw_all := lw_g (lw_at lw_m2 96 rfl) rfl
theorem q458 : (Jvm.Cond.classLink "WingTrams" (149 : Nat) "WingTrams$Owl") ∈ lw_all := lw_g (lw_at lw_m2 108 rfl) rfl
theorem q460 : (Jvm.Cond.instanceMethod ({ cls := "WingTrams", name := "never", desc := "()I" } : Jvm.MethodName)) ∈ lw_all := lw_g (lw_at lw_m2 110 rfl) rfl
theorem q461 : (Jvm.Cond.selects "WingTrams" ({ cls := "WingTrams", name := "never", desc := "()I" } : Jvm.MethodName) ({ cls := "WingTrams", name := "never", desc := "()I" } : Jvm.MethodName)) ∈ lw_all := lw_g (lw_at lw_m2 111 rfl) rfl
theorem q462 : (Jvm.Cond.code ({ cls := "WingTrams", name := "never", desc := "()I" } : Jvm.MethodName) prog_1_method_36_code (4 : Nat) (Option.some Jvm.ClassFile.FieldType.int)) ∈ lw_all := lw_g (lw_at lw_m2 112 rfl) rfl
theorem q463 : (Jvm.Cond.methodLink "WingTrams" (128 : Nat) ({ cls := "WingTrams", name := "night", desc := "()LWingTrams$Night;" } : Jvm.MethodName)) ∈ lw_all := lw_g (lw_at lw_m2 113 rfl) rfl
theorem q464 : (Jvm.Cond.privateMethod ({ cls := "WingTrams", name := "night", desc := "()LWingTrams$Night;" } : Jvm.MethodName)) ∈ lw_tbl := lw_at lw_m2 114 rfl
theorem q465 : (Jvm.Cond.instanceMethod ({ cls := "WingTrams", name := "night", desc := "()LWingTrams$Night;" } : Jvm.MethodName)) ∈ lw_all := lw_g (lw_at lw_m2 115 rfl) rfl
theorem q466 : (Jvm.Cond.code ({ cls := "WingTrams", name := "night", desc := "()LWingTrams$Night;" } : Jvm.MethodName) prog_1_method_10_code (1 : Nat) (Option.some (Jvm.ClassFile.FieldType.object "WingTrams$Night"))) ∈ lw_all := lw_g (lw_at lw_m2 116 rfl) rfl
theorem q467 : (Jvm.Cond.classLink "WingTrams" (100 : Nat) "WingTrams$Night") ∈ lw_all := lw_g (lw_at lw_m2 117 rfl) rfl
theorem q469 : (Jvm.Cond.methodLinkNest "WingTrams" (102 : Nat) ({ cls := "WingTrams$Night", name := "<init>", desc := "(LWingTrams;)V" } : Jvm.MethodName) "WingTrams") ∈ lw_tbl := lw_at lw_m2 119 rfl
theorem q475 : (Jvm.Cond.fieldLinkNest "WingTrams" (282 : Nat) "WingTrams$Night" "rule" "I" "WingTrams") ∈ lw_tbl := lw_at lw_m2 125 rfl
theorem q477 : (Jvm.Cond.fieldLinkNest "WingTrams" (299 : Nat) "WingTrams$Night" "moon" "I" "WingTrams") ∈ lw_tbl := lw_at lw_m2 127 rfl
theorem q479 : (Jvm.Cond.fieldLinkNest "WingTrams" (276 : Nat) "WingTrams$Night" "nests" "I" "WingTrams") ∈ lw_tbl := lw_at lw_m2 129 rfl
theorem q481 : (Jvm.Cond.fieldLinkNest "WingTrams" (313 : Nat) "WingTrams$Night" "wet" "Z" "WingTrams") ∈ lw_tbl := lw_at lw_m2 131 rfl
theorem q483 : (Jvm.Cond.fieldLinkNest "WingTrams" (249 : Nat) "WingTrams$Night" "more" "[I" "WingTrams") ∈ lw_tbl := lw_at lw_m2 133 rfl
theorem q485 : (Jvm.Cond.fieldLinkNest "WingTrams" (159 : Nat) "WingTrams$Night" "mice" "[I" "WingTrams") ∈ lw_tbl := lw_at lw_m2 135 rfl
theorem q487 : (Jvm.Cond.fieldLinkNest "WingTrams" (175 : Nat) "WingTrams$Night" "caught" "[I" "WingTrams") ∈ lw_tbl := lw_at lw_m2 137 rfl
theorem q491 : (Jvm.Cond.fieldLinkNest "WingTrams" (193 : Nat) "WingTrams$Night" "comes" "[[I" "WingTrams") ∈ lw_tbl := lw_at lw_m2 141 rfl
theorem q494 : (Jvm.Cond.fieldLinkNest "WingTrams" (196 : Nat) "WingTrams$Night" "leaves" "[[I" "WingTrams") ∈ lw_tbl := lw_at lw_m2 144 rfl
theorem q496 : (Jvm.Cond.fieldLinkNest "WingTrams" (296 : Nat) "WingTrams$Night" "soon" "[I" "WingTrams") ∈ lw_tbl := lw_at lw_m2 146 rfl
theorem q523 : (Jvm.Cond.methodLink "WingTrams" (105 : Nat) ({ cls := "WingTrams$Night", name := "run", desc := "()LWingTrams$Night;" } : Jvm.MethodName)) ∈ lw_all := lw_g (lw_at lw_m2 173 rfl) rfl
theorem q541 : (Jvm.Cond.static ({ cls := "WingTrams", name := "isOf", desc := "(II)Z" } : Jvm.MethodName)) ∈ lw_all := lw_g (lw_at lw_m2 191 rfl) rfl
theorem q542 : (Jvm.Cond.code ({ cls := "WingTrams", name := "isOf", desc := "(II)Z" } : Jvm.MethodName) prog_1_method_4_code (2 : Nat) (Option.some Jvm.ClassFile.FieldType.boolean)) ∈ lw_all := lw_g (lw_at lw_m2 192 rfl) rfl
theorem q647 : (Jvm.Cond.methodLink "WingTrams" (221 : Nat) ({ cls := "WingTrams$Night", name := "home", desc := "([I)I" } : Jvm.MethodName)) ∈ lw_all := lw_g (lw_at lw_m3 57 rfl) rfl
theorem q664 : (Jvm.Cond.constant "WingTrams" (12 : Nat) (1000000 : Int32)) ∈ lw_all := lw_g (lw_at lw_m3 74 rfl) rfl
theorem q666 : (Jvm.Cond.instanceMethod ({ cls := "WingTrams", name := "vital", desc := "()I" } : Jvm.MethodName)) ∈ lw_all := lw_g (lw_at lw_m3 76 rfl) rfl
theorem q667 : (Jvm.Cond.selects "WingTrams" ({ cls := "WingTrams", name := "vital", desc := "()I" } : Jvm.MethodName) ({ cls := "WingTrams", name := "vital", desc := "()I" } : Jvm.MethodName)) ∈ lw_all := lw_g (lw_at lw_m3 77 rfl) rfl
theorem q668 : (Jvm.Cond.code ({ cls := "WingTrams", name := "vital", desc := "()I" } : Jvm.MethodName) prog_1_method_46_code (3 : Nat) (Option.some Jvm.ClassFile.FieldType.int)) ∈ lw_all := lw_g (lw_at lw_m3 78 rfl) rfl
theorem q669 : (Jvm.Cond.methodLink "WingTrams" (279 : Nat) ({ cls := "WingTrams", name := "worthOf", desc := "(I)I" } : Jvm.MethodName)) ∈ lw_all := lw_g (lw_at lw_m3 79 rfl) rfl
theorem q670 : (Jvm.Cond.privateMethod ({ cls := "WingTrams", name := "worthOf", desc := "(I)I" } : Jvm.MethodName)) ∈ lw_tbl := lw_at lw_m3 80 rfl
theorem q671 : (Jvm.Cond.instanceMethod ({ cls := "WingTrams", name := "worthOf", desc := "(I)I" } : Jvm.MethodName)) ∈ lw_all := lw_g (lw_at lw_m3 81 rfl) rfl
theorem q672 : (Jvm.Cond.code ({ cls := "WingTrams", name := "worthOf", desc := "(I)I" } : Jvm.MethodName) prog_1_method_44_code (4 : Nat) (Option.some Jvm.ClassFile.FieldType.int)) ∈ lw_all := lw_g (lw_at lw_m3 82 rfl) rfl
theorem q673 : (Jvm.Cond.methodLink "WingTrams" (131 : Nat) ({ cls := "WingTrams$Night", name := "homes", desc := "()I" } : Jvm.MethodName)) ∈ lw_all := lw_g (lw_at lw_m3 83 rfl) rfl
theorem q680 : (Jvm.Cond.instanceMethod ({ cls := "WingTrams", name := "forget", desc := "()V" } : Jvm.MethodName)) ∈ lw_all := lw_g (lw_at lw_m3 90 rfl) rfl
theorem q681 : (Jvm.Cond.selects "WingTrams" ({ cls := "WingTrams", name := "forget", desc := "()V" } : Jvm.MethodName) ({ cls := "WingTrams", name := "forget", desc := "()V" } : Jvm.MethodName)) ∈ lw_all := lw_g (lw_at lw_m3 91 rfl) rfl
theorem q682 : (Jvm.Cond.code ({ cls := "WingTrams", name := "forget", desc := "()V" } : Jvm.MethodName) prog_1_method_48_code (1 : Nat) (Option.none : Option Jvm.ClassFile.FieldType)) ∈ lw_all := lw_g (lw_at lw_m3 92 rfl) rfl
theorem q684 : (Jvm.Cond.instanceMethod ({ cls := "WingTrams", name := "fits", desc := "()I" } : Jvm.MethodName)) ∈ lw_all := lw_g (lw_at lw_m3 94 rfl) rfl
theorem q685 : (Jvm.Cond.selects "WingTrams" ({ cls := "WingTrams", name := "fits", desc := "()I" } : Jvm.MethodName) ({ cls := "WingTrams", name := "fits", desc := "()I" } : Jvm.MethodName)) ∈ lw_all := lw_g (lw_at lw_m3 95 rfl) rfl
theorem q686 : (Jvm.Cond.code ({ cls := "WingTrams", name := "fits", desc := "()I" } : Jvm.MethodName) prog_1_method_50_code (4 : Nat) (Option.some Jvm.ClassFile.FieldType.int)) ∈ lw_all := lw_g (lw_at lw_m3 96 rfl) rfl
theorem q687 : (Jvm.Cond.methodLink "WingTrams" (285 : Nat) ({ cls := "WingTrams", name := "fits", desc := "(LWingTrams$Night;I)Z" } : Jvm.MethodName)) ∈ lw_all := lw_g (lw_at lw_m3 97 rfl) rfl
theorem q688 : (Jvm.Cond.privateMethod ({ cls := "WingTrams", name := "fits", desc := "(LWingTrams$Night;I)Z" } : Jvm.MethodName)) ∈ lw_tbl := lw_at lw_m3 98 rfl
theorem q689 : (Jvm.Cond.instanceMethod ({ cls := "WingTrams", name := "fits", desc := "(LWingTrams$Night;I)Z" } : Jvm.MethodName)) ∈ lw_all := lw_g (lw_at lw_m3 99 rfl) rfl
theorem q690 : (Jvm.Cond.code ({ cls := "WingTrams", name := "fits", desc := "(LWingTrams$Night;I)Z" } : Jvm.MethodName) prog_1_method_49_code (4 : Nat) (Option.some Jvm.ClassFile.FieldType.boolean)) ∈ lw_all := lw_g (lw_at lw_m3 100 rfl) rfl
theorem q691 : (Jvm.Cond.methodLink "WingTrams" (203 : Nat) ({ cls := "WingTrams$Night", name := "where", desc := "(II)I" } : Jvm.MethodName)) ∈ lw_all := lw_g (lw_at lw_m3 101 rfl) rfl
theorem q696 : (Jvm.Cond.instanceMethod ({ cls := "WingTrams", name := "watch", desc := "(I)I" } : Jvm.MethodName)) ∈ lw_all := lw_g (lw_at lw_m3 106 rfl) rfl
theorem q697 : (Jvm.Cond.selects "WingTrams" ({ cls := "WingTrams", name := "watch", desc := "(I)I" } : Jvm.MethodName) ({ cls := "WingTrams", name := "watch", desc := "(I)I" } : Jvm.MethodName)) ∈ lw_all := lw_g (lw_at lw_m3 107 rfl) rfl
theorem q698 : (Jvm.Cond.code ({ cls := "WingTrams", name := "watch", desc := "(I)I" } : Jvm.MethodName) prog_1_method_51_code (8 : Nat) (Option.some Jvm.ClassFile.FieldType.int)) ∈ lw_all := lw_g (lw_at lw_m3 108 rfl) rfl
theorem q699 : (Jvm.Cond.methodLink "WingTrams" (178 : Nat) ({ cls := "WingTrams", name := "isOf", desc := "(II)Z" } : Jvm.MethodName)) ∈ lw_all := lw_g (lw_at lw_m3 109 rfl) rfl
theorem q700 : (Jvm.Cond.methodLink "WingTrams" (289 : Nat) ({ cls := "java/lang/Math", name := "abs", desc := "(I)I" } : Jvm.MethodName)) ∈ lw_all := lw_g (lw_at lw_m3 110 rfl) rfl
theorem q704 : (Jvm.Cond.instanceMethod ({ cls := "WingTrams", name := "best", desc := "()I" } : Jvm.MethodName)) ∈ lw_all := lw_g (lw_at lw_m3 114 rfl) rfl
theorem q705 : (Jvm.Cond.selects "WingTrams" ({ cls := "WingTrams", name := "best", desc := "()I" } : Jvm.MethodName) ({ cls := "WingTrams", name := "best", desc := "()I" } : Jvm.MethodName)) ∈ lw_all := lw_g (lw_at lw_m3 115 rfl) rfl
theorem q706 : (Jvm.Cond.code ({ cls := "WingTrams", name := "best", desc := "()I" } : Jvm.MethodName) prog_1_method_54_code (6 : Nat) (Option.some Jvm.ClassFile.FieldType.int)) ∈ lw_all := lw_g (lw_at lw_m3 116 rfl) rfl
theorem q708 : (Jvm.Cond.instanceMethod ({ cls := "WingTrams", name := "bright", desc := "()I" } : Jvm.MethodName)) ∈ lw_all := lw_g (lw_at lw_m3 118 rfl) rfl
theorem q709 : (Jvm.Cond.selects "WingTrams" ({ cls := "WingTrams", name := "bright", desc := "()I" } : Jvm.MethodName) ({ cls := "WingTrams", name := "bright", desc := "()I" } : Jvm.MethodName)) ∈ lw_all := lw_g (lw_at lw_m3 119 rfl) rfl
theorem q710 : (Jvm.Cond.code ({ cls := "WingTrams", name := "bright", desc := "()I" } : Jvm.MethodName) prog_1_method_55_code (5 : Nat) (Option.some Jvm.ClassFile.FieldType.int)) ∈ lw_all := lw_g (lw_at lw_m3 120 rfl) rfl
theorem q712 : (Jvm.Cond.instanceMethod ({ cls := "WingTrams", name := "hunter", desc := "()I" } : Jvm.MethodName)) ∈ lw_all := lw_g (lw_at lw_m3 122 rfl) rfl
theorem q713 : (Jvm.Cond.selects "WingTrams" ({ cls := "WingTrams", name := "hunter", desc := "()I" } : Jvm.MethodName) ({ cls := "WingTrams", name := "hunter", desc := "()I" } : Jvm.MethodName)) ∈ lw_all := lw_g (lw_at lw_m3 123 rfl) rfl
theorem q714 : (Jvm.Cond.code ({ cls := "WingTrams", name := "hunter", desc := "()I" } : Jvm.MethodName) prog_1_method_56_code (4 : Nat) (Option.some Jvm.ClassFile.FieldType.int)) ∈ lw_all := lw_g (lw_at lw_m3 124 rfl) rfl
theorem q716 : (Jvm.Cond.instanceMethod ({ cls := "WingTrams", name := "image", desc := "()V" } : Jvm.MethodName)) ∈ lw_all := lw_g (lw_at lw_m3 126 rfl) rfl
theorem q717 : (Jvm.Cond.selects "WingTrams" ({ cls := "WingTrams", name := "image", desc := "()V" } : Jvm.MethodName) ({ cls := "WingTrams", name := "image", desc := "()V" } : Jvm.MethodName)) ∈ lw_all := lw_g (lw_at lw_m3 127 rfl) rfl
theorem q718 : (Jvm.Cond.code ({ cls := "WingTrams", name := "image", desc := "()V" } : Jvm.MethodName) prog_1_method_62_code (1 : Nat) (Option.none : Option Jvm.ClassFile.FieldType)) ∈ lw_all := lw_g (lw_at lw_m3 128 rfl) rfl
theorem q719 : (Jvm.Cond.methodLink "WingTrams" (316 : Nat) ({ cls := "WingTrams", name := "settings", desc := "()[I" } : Jvm.MethodName)) ∈ lw_all := lw_g (lw_at lw_m3 129 rfl) rfl
theorem q720 : (Jvm.Cond.privateMethod ({ cls := "WingTrams", name := "settings", desc := "()[I" } : Jvm.MethodName)) ∈ lw_tbl := lw_at lw_m3 130 rfl
theorem q721 : (Jvm.Cond.instanceMethod ({ cls := "WingTrams", name := "settings", desc := "()[I" } : Jvm.MethodName)) ∈ lw_all := lw_g (lw_at lw_m3 131 rfl) rfl
theorem q722 : (Jvm.Cond.code ({ cls := "WingTrams", name := "settings", desc := "()[I" } : Jvm.MethodName) prog_1_method_61_code (3 : Nat) (Option.some (Jvm.ClassFile.FieldType.array Jvm.ClassFile.FieldType.int))) ∈ lw_all := lw_g (lw_at lw_m3 132 rfl) rfl
theorem q723 : (Jvm.Cond.methodLink "WingTrams" (320 : Nat) ({ cls := "java/util/ArrayList", name := "<init>", desc := "(Ljava/util/Collection;)V" } : Jvm.MethodName)) ∈ lw_all := lw_g (lw_at lw_m3 133 rfl) rfl
theorem q748 : (Jvm.Cond.instanceMethod ({ cls := "WingTrams", name := "restore", desc := "()Z" } : Jvm.MethodName)) ∈ lw_all := lw_g (lw_at lw_m3 158 rfl) rfl
theorem q749 : (Jvm.Cond.selects "WingTrams" ({ cls := "WingTrams", name := "restore", desc := "()Z" } : Jvm.MethodName) ({ cls := "WingTrams", name := "restore", desc := "()Z" } : Jvm.MethodName)) ∈ lw_all := lw_g (lw_at lw_m3 159 rfl) rfl
theorem q750 : (Jvm.Cond.code ({ cls := "WingTrams", name := "restore", desc := "()Z" } : Jvm.MethodName) prog_1_method_63_code (2 : Nat) (Option.some Jvm.ClassFile.FieldType.boolean)) ∈ lw_all := lw_g (lw_at lw_m3 160 rfl) rfl
theorem q756 : (Jvm.Cond.instanceMethod ({ cls := "WingTrams", name := "city", desc := "(I)I" } : Jvm.MethodName)) ∈ lw_all := lw_g (lw_at lw_m3 166 rfl) rfl
theorem q757 : (Jvm.Cond.selects "WingTrams" ({ cls := "WingTrams", name := "city", desc := "(I)I" } : Jvm.MethodName) ({ cls := "WingTrams", name := "city", desc := "(I)I" } : Jvm.MethodName)) ∈ lw_all := lw_g (lw_at lw_m3 167 rfl) rfl
theorem q758 : (Jvm.Cond.codeWith ({ cls := "WingTrams", name := "city", desc := "(I)I" } : Jvm.MethodName) prog_1_method_8_code (4 : Nat) (Option.some Jvm.ClassFile.FieldType.int) [((40 : Nat), (48 : Nat), (51 : Nat), (67 : Nat))]) ∈ lw_all := lw_g (lw_at lw_m3 168 rfl) rfl
theorem q759 : (Jvm.Cond.classLink "WingTrams" (67 : Nat) "WingTrams$Wrong") ∈ lw_all := lw_g (lw_at lw_m3 169 rfl) rfl
theorem q760 : (Jvm.Cond.methodLink "WingTrams" (54 : Nat) ({ cls := "WingTrams", name := "right", desc := "(Z)V" } : Jvm.MethodName)) ∈ lw_all := lw_g (lw_at lw_m3 170 rfl) rfl
theorem q761 : (Jvm.Cond.static ({ cls := "WingTrams", name := "right", desc := "(Z)V" } : Jvm.MethodName)) ∈ lw_all := lw_g (lw_at lw_m3 171 rfl) rfl
theorem q762 : (Jvm.Cond.code ({ cls := "WingTrams", name := "right", desc := "(Z)V" } : Jvm.MethodName) prog_1_method_3_code (1 : Nat) (Option.none : Option Jvm.ClassFile.FieldType)) ∈ lw_all := lw_g (lw_at lw_m3 172 rfl) rfl
theorem q763 : (Jvm.Cond.classLink "WingTrams" (7 : Nat) "java/lang/IllegalArgumentException") ∈ lw_all := lw_g (lw_at lw_m3 173 rfl) rfl
theorem q804 : (Jvm.Cond.methodLink "WingTrams" (9 : Nat) ({ cls := "java/lang/IllegalArgumentException", name := "<init>", desc := "()V" } : Jvm.MethodName)) ∈ lw_all := lw_g (lw_at lw_m3 214 rfl) rfl
theorem q827 : (Jvm.Cond.classLink "WingTrams" (58 : Nat) "WingTrams$Reader") ∈ lw_all := lw_g (lw_at lw_m3 237 rfl) rfl
theorem q829 : (Jvm.Cond.methodLink "WingTrams" (60 : Nat) ({ cls := "WingTrams$Reader", name := "<init>", desc := "(LWingTrams;I)V" } : Jvm.MethodName)) ∈ lw_all := lw_g (lw_at lw_m3 239 rfl) rfl
theorem q840 : (Jvm.Cond.fieldLinkNest "WingTrams" (69 : Nat) "WingTrams$Reader" "begins" "I" "WingTrams") ∈ lw_tbl := lw_at lw_m4 10 rfl
theorem q864 : (Jvm.Cond.methodLink "WingTrams" (63 : Nat) ({ cls := "WingTrams$Reader", name := "read", desc := "()LWingTrams$City;" } : Jvm.MethodName)) ∈ lw_all := lw_g (lw_at lw_m4 34 rfl) rfl
theorem q1013 : (Jvm.Cond.fieldLinkNest "WingTrams" (72 : Nat) "WingTrams$Wrong" "kind" "I" "WingTrams") ∈ lw_tbl := lw_at lw_m4 183 rfl
theorem q1036 : (Jvm.Cond.fieldLinkNest "WingTrams" (170 : Nat) "WingTrams$Owl" "kind" "I" "WingTrams") ∈ lw_tbl := lw_at lw_m4 206 rfl
theorem q1039 : (Jvm.Cond.fieldLinkNest "WingTrams" (171 : Nat) "WingTrams$Owl" "minute" "I" "WingTrams") ∈ lw_tbl := lw_at lw_m4 209 rfl
theorem q1292 : (Jvm.Cond.instanceMethod ({ cls := "WingTrams", name := "count", desc := "(I)I" } : Jvm.MethodName)) ∈ lw_all := lw_g (lw_at lw_m5 222 rfl) rfl
theorem q1293 : (Jvm.Cond.selects "WingTrams" ({ cls := "WingTrams", name := "count", desc := "(I)I" } : Jvm.MethodName) ({ cls := "WingTrams", name := "count", desc := "(I)I" } : Jvm.MethodName)) ∈ lw_all := lw_g (lw_at lw_m5 223 rfl) rfl
theorem q1294 : (Jvm.Cond.code ({ cls := "WingTrams", name := "count", desc := "(I)I" } : Jvm.MethodName) prog_1_method_11_code (2 : Nat) (Option.some Jvm.ClassFile.FieldType.int)) ∈ lw_all := lw_g (lw_at lw_m5 224 rfl) rfl
theorem q1295 : (Jvm.Cond.methodLink "WingTrams" (138 : Nat) ({ cls := "WingTrams", name := "found", desc := "(Z)V" } : Jvm.MethodName)) ∈ lw_all := lw_g (lw_at lw_m5 225 rfl) rfl
theorem q1296 : (Jvm.Cond.static ({ cls := "WingTrams", name := "found", desc := "(Z)V" } : Jvm.MethodName)) ∈ lw_all := lw_g (lw_at lw_m5 226 rfl) rfl
theorem q1297 : (Jvm.Cond.code ({ cls := "WingTrams", name := "found", desc := "(Z)V" } : Jvm.MethodName) prog_1_method_2_code (1 : Nat) (Option.none : Option Jvm.ClassFile.FieldType)) ∈ lw_all := lw_g (lw_at lw_m5 227 rfl) rfl
theorem q1298 : (Jvm.Cond.classLink "WingTrams" (1 : Nat) "java/util/NoSuchElementException") ∈ lw_all := lw_g (lw_at lw_m5 228 rfl) rfl
theorem q1307 : (Jvm.Cond.methodLink "WingTrams" (3 : Nat) ({ cls := "java/util/NoSuchElementException", name := "<init>", desc := "()V" } : Jvm.MethodName)) ∈ lw_all := lw_g (lw_at lw_m5 237 rfl) rfl
theorem q1317 : (Jvm.Cond.instanceMethod ({ cls := "WingTrams", name := "roof", desc := "(II)I" } : Jvm.MethodName)) ∈ lw_all := lw_g (lw_at lw_m6 7 rfl) rfl
theorem q1318 : (Jvm.Cond.selects "WingTrams" ({ cls := "WingTrams", name := "roof", desc := "(II)I" } : Jvm.MethodName) ({ cls := "WingTrams", name := "roof", desc := "(II)I" } : Jvm.MethodName)) ∈ lw_all := lw_g (lw_at lw_m6 8 rfl) rfl
theorem q1319 : (Jvm.Cond.code ({ cls := "WingTrams", name := "roof", desc := "(II)I" } : Jvm.MethodName) prog_1_method_17_code (6 : Nat) (Option.some Jvm.ClassFile.FieldType.int)) ∈ lw_all := lw_g (lw_at lw_m6 9 rfl) rfl
theorem q1320 : (Jvm.Cond.methodLink "WingTrams" (152 : Nat) ({ cls := "WingTrams", name := "aRoof", desc := "(I)V" } : Jvm.MethodName)) ∈ lw_all := lw_g (lw_at lw_m6 10 rfl) rfl
theorem q1321 : (Jvm.Cond.privateMethod ({ cls := "WingTrams", name := "aRoof", desc := "(I)V" } : Jvm.MethodName)) ∈ lw_tbl := lw_at lw_m6 11 rfl
theorem q1322 : (Jvm.Cond.instanceMethod ({ cls := "WingTrams", name := "aRoof", desc := "(I)V" } : Jvm.MethodName)) ∈ lw_all := lw_g (lw_at lw_m6 12 rfl) rfl
theorem q1323 : (Jvm.Cond.code ({ cls := "WingTrams", name := "aRoof", desc := "(I)V" } : Jvm.MethodName) prog_1_method_13_code (2 : Nat) (Option.none : Option Jvm.ClassFile.FieldType)) ∈ lw_all := lw_g (lw_at lw_m6 13 rfl) rfl
theorem q1324 : (Jvm.Cond.methodLink "WingTrams" (141 : Nat) ({ cls := "WingTrams", name := "isRoof", desc := "(I)Z" } : Jvm.MethodName)) ∈ lw_all := lw_g (lw_at lw_m6 14 rfl) rfl
theorem q1325 : (Jvm.Cond.privateMethod ({ cls := "WingTrams", name := "isRoof", desc := "(I)Z" } : Jvm.MethodName)) ∈ lw_tbl := lw_at lw_m6 15 rfl
theorem q1326 : (Jvm.Cond.instanceMethod ({ cls := "WingTrams", name := "isRoof", desc := "(I)Z" } : Jvm.MethodName)) ∈ lw_all := lw_g (lw_at lw_m6 16 rfl) rfl
theorem q1327 : (Jvm.Cond.code ({ cls := "WingTrams", name := "isRoof", desc := "(I)Z" } : Jvm.MethodName) prog_1_method_12_code (2 : Nat) (Option.some Jvm.ClassFile.FieldType.boolean)) ∈ lw_all := lw_g (lw_at lw_m6 17 rfl) rfl
theorem q1332 : (Jvm.Cond.instanceMethod ({ cls := "WingTrams", name := "flight", desc := "(II)I" } : Jvm.MethodName)) ∈ lw_all := lw_g (lw_at lw_m6 22 rfl) rfl
theorem q1333 : (Jvm.Cond.selects "WingTrams" ({ cls := "WingTrams", name := "flight", desc := "(II)I" } : Jvm.MethodName) ({ cls := "WingTrams", name := "flight", desc := "(II)I" } : Jvm.MethodName)) ∈ lw_all := lw_g (lw_at lw_m6 23 rfl) rfl
theorem q1334 : (Jvm.Cond.code ({ cls := "WingTrams", name := "flight", desc := "(II)I" } : Jvm.MethodName) prog_1_method_18_code (3 : Nat) (Option.some Jvm.ClassFile.FieldType.int)) ∈ lw_all := lw_g (lw_at lw_m6 24 rfl) rfl
theorem q1339 : (Jvm.Cond.instanceMethod ({ cls := "WingTrams", name := "owl", desc := "(II)I" } : Jvm.MethodName)) ∈ lw_all := lw_g (lw_at lw_m6 29 rfl) rfl
theorem q1340 : (Jvm.Cond.selects "WingTrams" ({ cls := "WingTrams", name := "owl", desc := "(II)I" } : Jvm.MethodName) ({ cls := "WingTrams", name := "owl", desc := "(II)I" } : Jvm.MethodName)) ∈ lw_all := lw_g (lw_at lw_m6 30 rfl) rfl
theorem q1341 : (Jvm.Cond.code ({ cls := "WingTrams", name := "owl", desc := "(II)I" } : Jvm.MethodName) prog_1_method_19_code (4 : Nat) (Option.some Jvm.ClassFile.FieldType.int)) ∈ lw_all := lw_g (lw_at lw_m6 31 rfl) rfl
theorem q1342 : (Jvm.Cond.methodLink "WingTrams" (166 : Nat) ({ cls := "WingTrams", name := "anOwl", desc := "(I)LWingTrams$Owl;" } : Jvm.MethodName)) ∈ lw_all := lw_g (lw_at lw_m6 32 rfl) rfl
theorem q1343 : (Jvm.Cond.privateMethod ({ cls := "WingTrams", name := "anOwl", desc := "(I)LWingTrams$Owl;" } : Jvm.MethodName)) ∈ lw_tbl := lw_at lw_m6 33 rfl
theorem q1344 : (Jvm.Cond.instanceMethod ({ cls := "WingTrams", name := "anOwl", desc := "(I)LWingTrams$Owl;" } : Jvm.MethodName)) ∈ lw_all := lw_g (lw_at lw_m6 34 rfl) rfl
theorem q1345 : (Jvm.Cond.code ({ cls := "WingTrams", name := "anOwl", desc := "(I)LWingTrams$Owl;" } : Jvm.MethodName) prog_1_method_14_code (2 : Nat) (Option.some (Jvm.ClassFile.FieldType.object "WingTrams$Owl"))) ∈ lw_all := lw_g (lw_at lw_m6 35 rfl) rfl
theorem q1346 : (Jvm.Cond.methodLink "WingTrams" (174 : Nat) ({ cls := "WingTrams$Owl", name := "size", desc := "()I" } : Jvm.MethodName)) ∈ lw_all := lw_g (lw_at lw_m6 36 rfl) rfl
theorem q1347 : (Jvm.Cond.methodLink "WingTrams" (182 : Nat) ({ cls := "WingTrams$Night", name := "together", desc := "(I)I" } : Jvm.MethodName)) ∈ lw_all := lw_g (lw_at lw_m6 37 rfl) rfl
theorem q1356 : (Jvm.Cond.instanceMethod ({ cls := "WingTrams", name := "stop", desc := "(III)I" } : Jvm.MethodName)) ∈ lw_all := lw_g (lw_at lw_m6 46 rfl) rfl
theorem q1357 : (Jvm.Cond.selects "WingTrams" ({ cls := "WingTrams", name := "stop", desc := "(III)I" } : Jvm.MethodName) ({ cls := "WingTrams", name := "stop", desc := "(III)I" } : Jvm.MethodName)) ∈ lw_all := lw_g (lw_at lw_m6 47 rfl) rfl
theorem q1358 : (Jvm.Cond.code ({ cls := "WingTrams", name := "stop", desc := "(III)I" } : Jvm.MethodName) prog_1_method_20_code (6 : Nat) (Option.some Jvm.ClassFile.FieldType.int)) ∈ lw_all := lw_g (lw_at lw_m6 48 rfl) rfl
theorem q1359 : (Jvm.Cond.methodLink "WingTrams" (186 : Nat) ({ cls := "WingTrams", name := "oneOf", desc := "(II)V" } : Jvm.MethodName)) ∈ lw_all := lw_g (lw_at lw_m6 49 rfl) rfl
theorem q1360 : (Jvm.Cond.static ({ cls := "WingTrams", name := "oneOf", desc := "(II)V" } : Jvm.MethodName)) ∈ lw_all := lw_g (lw_at lw_m6 50 rfl) rfl
theorem q1361 : (Jvm.Cond.code ({ cls := "WingTrams", name := "oneOf", desc := "(II)V" } : Jvm.MethodName) prog_1_method_16_code (2 : Nat) (Option.none : Option Jvm.ClassFile.FieldType)) ∈ lw_all := lw_g (lw_at lw_m6 51 rfl) rfl
theorem q1362 : (Jvm.Cond.methodLink "WingTrams" (190 : Nat) ({ cls := "WingTrams$Owl", name := "at", desc := "(I)I" } : Jvm.MethodName)) ∈ lw_all := lw_g (lw_at lw_m6 52 rfl) rfl
theorem q1367 : (Jvm.Cond.instanceMethod ({ cls := "WingTrams", name := "rider", desc := "(II)I" } : Jvm.MethodName)) ∈ lw_all := lw_g (lw_at lw_m6 57 rfl) rfl
theorem q1368 : (Jvm.Cond.selects "WingTrams" ({ cls := "WingTrams", name := "rider", desc := "(II)I" } : Jvm.MethodName) ({ cls := "WingTrams", name := "rider", desc := "(II)I" } : Jvm.MethodName)) ∈ lw_all := lw_g (lw_at lw_m6 58 rfl) rfl
theorem q1369 : (Jvm.Cond.code ({ cls := "WingTrams", name := "rider", desc := "(II)I" } : Jvm.MethodName) prog_1_method_21_code (4 : Nat) (Option.some Jvm.ClassFile.FieldType.int)) ∈ lw_all := lw_g (lw_at lw_m6 59 rfl) rfl
theorem q1370 : (Jvm.Cond.methodLink "WingTrams" (199 : Nat) ({ cls := "WingTrams", name := "aRider", desc := "(I)[I" } : Jvm.MethodName)) ∈ lw_all := lw_g (lw_at lw_m6 60 rfl) rfl
theorem q1371 : (Jvm.Cond.privateMethod ({ cls := "WingTrams", name := "aRider", desc := "(I)[I" } : Jvm.MethodName)) ∈ lw_tbl := lw_at lw_m6 61 rfl
theorem q1372 : (Jvm.Cond.instanceMethod ({ cls := "WingTrams", name := "aRider", desc := "(I)[I" } : Jvm.MethodName)) ∈ lw_all := lw_g (lw_at lw_m6 62 rfl) rfl
theorem q1373 : (Jvm.Cond.code ({ cls := "WingTrams", name := "aRider", desc := "(I)[I" } : Jvm.MethodName) prog_1_method_15_code (2 : Nat) (Option.some (Jvm.ClassFile.FieldType.array Jvm.ClassFile.FieldType.int))) ∈ lw_all := lw_g (lw_at lw_m6 63 rfl) rfl
theorem q1378 : (Jvm.Cond.instanceMethod ({ cls := "WingTrams", name := "where", desc := "(II)I" } : Jvm.MethodName)) ∈ lw_all := lw_g (lw_at lw_m6 68 rfl) rfl
theorem q1379 : (Jvm.Cond.selects "WingTrams" ({ cls := "WingTrams", name := "where", desc := "(II)I" } : Jvm.MethodName) ({ cls := "WingTrams", name := "where", desc := "(II)I" } : Jvm.MethodName)) ∈ lw_all := lw_g (lw_at lw_m6 69 rfl) rfl
theorem q1380 : (Jvm.Cond.code ({ cls := "WingTrams", name := "where", desc := "(II)I" } : Jvm.MethodName) prog_1_method_22_code (3 : Nat) (Option.some Jvm.ClassFile.FieldType.int)) ∈ lw_all := lw_g (lw_at lw_m6 70 rfl) rfl
theorem q1385 : (Jvm.Cond.instanceMethod ({ cls := "WingTrams", name := "nest", desc := "(IZ)Z" } : Jvm.MethodName)) ∈ lw_all := lw_g (lw_at lw_m6 75 rfl) rfl
theorem q1386 : (Jvm.Cond.selects "WingTrams" ({ cls := "WingTrams", name := "nest", desc := "(IZ)Z" } : Jvm.MethodName) ({ cls := "WingTrams", name := "nest", desc := "(IZ)Z" } : Jvm.MethodName)) ∈ lw_all := lw_g (lw_at lw_m6 76 rfl) rfl
theorem q1387 : (Jvm.Cond.code ({ cls := "WingTrams", name := "nest", desc := "(IZ)Z" } : Jvm.MethodName) prog_1_method_28_code (3 : Nat) (Option.some Jvm.ClassFile.FieldType.boolean)) ∈ lw_all := lw_g (lw_at lw_m6 77 rfl) rfl
theorem q1392 : (Jvm.Cond.instanceMethod ({ cls := "WingTrams", name := "grain", desc := "(II)I" } : Jvm.MethodName)) ∈ lw_all := lw_g (lw_at lw_m6 82 rfl) rfl
theorem q1393 : (Jvm.Cond.selects "WingTrams" ({ cls := "WingTrams", name := "grain", desc := "(II)I" } : Jvm.MethodName) ({ cls := "WingTrams", name := "grain", desc := "(II)I" } : Jvm.MethodName)) ∈ lw_all := lw_g (lw_at lw_m6 83 rfl) rfl
theorem q1394 : (Jvm.Cond.code ({ cls := "WingTrams", name := "grain", desc := "(II)I" } : Jvm.MethodName) prog_1_method_29_code (4 : Nat) (Option.some Jvm.ClassFile.FieldType.int)) ∈ lw_all := lw_g (lw_at lw_m6 84 rfl) rfl
theorem q1399 : (Jvm.Cond.instanceMethod ({ cls := "WingTrams", name := "start", desc := "(II)I" } : Jvm.MethodName)) ∈ lw_all := lw_g (lw_at lw_m6 89 rfl) rfl
theorem q1400 : (Jvm.Cond.selects "WingTrams" ({ cls := "WingTrams", name := "start", desc := "(II)I" } : Jvm.MethodName) ({ cls := "WingTrams", name := "start", desc := "(II)I" } : Jvm.MethodName)) ∈ lw_all := lw_g (lw_at lw_m6 90 rfl) rfl
theorem q1401 : (Jvm.Cond.code ({ cls := "WingTrams", name := "start", desc := "(II)I" } : Jvm.MethodName) prog_1_method_30_code (5 : Nat) (Option.some Jvm.ClassFile.FieldType.int)) ∈ lw_all := lw_g (lw_at lw_m6 91 rfl) rfl
theorem q1406 : (Jvm.Cond.instanceMethod ({ cls := "WingTrams", name := "home", desc := "(I)I" } : Jvm.MethodName)) ∈ lw_all := lw_g (lw_at lw_m6 96 rfl) rfl
theorem q1407 : (Jvm.Cond.selects "WingTrams" ({ cls := "WingTrams", name := "home", desc := "(I)I" } : Jvm.MethodName) ({ cls := "WingTrams", name := "home", desc := "(I)I" } : Jvm.MethodName)) ∈ lw_all := lw_g (lw_at lw_m6 97 rfl) rfl
theorem q1408 : (Jvm.Cond.code ({ cls := "WingTrams", name := "home", desc := "(I)I" } : Jvm.MethodName) prog_1_method_32_code (3 : Nat) (Option.some Jvm.ClassFile.FieldType.int)) ∈ lw_all := lw_g (lw_at lw_m6 98 rfl) rfl
theorem q1409 : (Jvm.Cond.methodLink "WingTrams" (225 : Nat) ({ cls := "WingTrams", name := "told", desc := "(I)I" } : Jvm.MethodName)) ∈ lw_all := lw_g (lw_at lw_m6 99 rfl) rfl
theorem q1410 : (Jvm.Cond.static ({ cls := "WingTrams", name := "told", desc := "(I)I" } : Jvm.MethodName)) ∈ lw_all := lw_g (lw_at lw_m6 100 rfl) rfl
theorem q1411 : (Jvm.Cond.code ({ cls := "WingTrams", name := "told", desc := "(I)I" } : Jvm.MethodName) prog_1_method_5_code (1 : Nat) (Option.some Jvm.ClassFile.FieldType.int)) ∈ lw_all := lw_g (lw_at lw_m6 101 rfl) rfl
theorem q1416 : (Jvm.Cond.instanceMethod ({ cls := "WingTrams", name := "changes", desc := "(I)I" } : Jvm.MethodName)) ∈ lw_all := lw_g (lw_at lw_m6 106 rfl) rfl
theorem q1417 : (Jvm.Cond.selects "WingTrams" ({ cls := "WingTrams", name := "changes", desc := "(I)I" } : Jvm.MethodName) ({ cls := "WingTrams", name := "changes", desc := "(I)I" } : Jvm.MethodName)) ∈ lw_all := lw_g (lw_at lw_m6 107 rfl) rfl
theorem q1418 : (Jvm.Cond.code ({ cls := "WingTrams", name := "changes", desc := "(I)I" } : Jvm.MethodName) prog_1_method_33_code (4 : Nat) (Option.some Jvm.ClassFile.FieldType.int)) ∈ lw_all := lw_g (lw_at lw_m6 108 rfl) rfl
theorem q1419 : (Jvm.Cond.methodLink "WingTrams" (228 : Nat) ({ cls := "WingTrams$Night", name := "rides", desc := "([I)I" } : Jvm.MethodName)) ∈ lw_all := lw_g (lw_at lw_m6 109 rfl) rfl
theorem q1423 : (Jvm.Cond.methodLink "WingTrams" (231 : Nat) ({ cls := "java/lang/Math", name := "max", desc := "(II)I" } : Jvm.MethodName)) ∈ lw_all := lw_g (lw_at lw_m6 113 rfl) rfl
theorem q1428 : (Jvm.Cond.instanceMethod ({ cls := "WingTrams", name := "cheapest", desc := "(I)I" } : Jvm.MethodName)) ∈ lw_all := lw_g (lw_at lw_m6 118 rfl) rfl
theorem q1429 : (Jvm.Cond.selects "WingTrams" ({ cls := "WingTrams", name := "cheapest", desc := "(I)I" } : Jvm.MethodName) ({ cls := "WingTrams", name := "cheapest", desc := "(I)I" } : Jvm.MethodName)) ∈ lw_all := lw_g (lw_at lw_m6 119 rfl) rfl
theorem q1430 : (Jvm.Cond.code ({ cls := "WingTrams", name := "cheapest", desc := "(I)I" } : Jvm.MethodName) prog_1_method_34_code (3 : Nat) (Option.some Jvm.ClassFile.FieldType.int)) ∈ lw_all := lw_g (lw_at lw_m6 120 rfl) rfl
theorem q1431 : (Jvm.Cond.methodLink "WingTrams" (236 : Nat) ({ cls := "WingTrams$Night", name := "cheapest", desc := "([I)I" } : Jvm.MethodName)) ∈ lw_all := lw_g (lw_at lw_m6 121 rfl) rfl
theorem q1443 : (Jvm.Cond.instanceMethod ({ cls := "WingTrams", name := "last", desc := "(I)I" } : Jvm.MethodName)) ∈ lw_all := lw_g (lw_at lw_m6 133 rfl) rfl
theorem q1444 : (Jvm.Cond.selects "WingTrams" ({ cls := "WingTrams", name := "last", desc := "(I)I" } : Jvm.MethodName) ({ cls := "WingTrams", name := "last", desc := "(I)I" } : Jvm.MethodName)) ∈ lw_all := lw_g (lw_at lw_m6 134 rfl) rfl
theorem q1445 : (Jvm.Cond.code ({ cls := "WingTrams", name := "last", desc := "(I)I" } : Jvm.MethodName) prog_1_method_35_code (3 : Nat) (Option.some Jvm.ClassFile.FieldType.int)) ∈ lw_all := lw_g (lw_at lw_m6 135 rfl) rfl
theorem q1446 : (Jvm.Cond.methodLink "WingTrams" (239 : Nat) ({ cls := "WingTrams$Night", name := "last", desc := "([I)I" } : Jvm.MethodName)) ∈ lw_all := lw_g (lw_at lw_m6 136 rfl) rfl
theorem q1454 : (Jvm.Cond.instanceMethod ({ cls := "WingTrams", name := "lure", desc := "(II)I" } : Jvm.MethodName)) ∈ lw_all := lw_g (lw_at lw_m6 144 rfl) rfl
theorem q1455 : (Jvm.Cond.selects "WingTrams" ({ cls := "WingTrams", name := "lure", desc := "(II)I" } : Jvm.MethodName) ({ cls := "WingTrams", name := "lure", desc := "(II)I" } : Jvm.MethodName)) ∈ lw_all := lw_g (lw_at lw_m6 145 rfl) rfl
theorem q1456 : (Jvm.Cond.code ({ cls := "WingTrams", name := "lure", desc := "(II)I" } : Jvm.MethodName) prog_1_method_39_code (5 : Nat) (Option.some Jvm.ClassFile.FieldType.int)) ∈ lw_all := lw_g (lw_at lw_m6 146 rfl) rfl
theorem q1457 : (Jvm.Cond.methodLink "WingTrams" (252 : Nat) ({ cls := "WingTrams", name := "lures", desc := "(LWingTrams$Night;IIII)Z" } : Jvm.MethodName)) ∈ lw_all := lw_g (lw_at lw_m6 147 rfl) rfl
theorem q1458 : (Jvm.Cond.privateMethod ({ cls := "WingTrams", name := "lures", desc := "(LWingTrams$Night;IIII)Z" } : Jvm.MethodName)) ∈ lw_tbl := lw_at lw_m6 148 rfl
theorem q1459 : (Jvm.Cond.instanceMethod ({ cls := "WingTrams", name := "lures", desc := "(LWingTrams$Night;IIII)Z" } : Jvm.MethodName)) ∈ lw_all := lw_g (lw_at lw_m6 149 rfl) rfl
theorem q1460 : (Jvm.Cond.code ({ cls := "WingTrams", name := "lures", desc := "(LWingTrams$Night;IIII)Z" } : Jvm.MethodName) prog_1_method_38_code (7 : Nat) (Option.some Jvm.ClassFile.FieldType.boolean)) ∈ lw_all := lw_g (lw_at lw_m6 150 rfl) rfl
theorem q1461 : (Jvm.Cond.methodLink "WingTrams" (245 : Nat) ({ cls := "WingTrams", name := "areHome", desc := "(LWingTrams$Night;II)Z" } : Jvm.MethodName)) ∈ lw_all := lw_g (lw_at lw_m6 151 rfl) rfl
theorem q1462 : (Jvm.Cond.privateMethod ({ cls := "WingTrams", name := "areHome", desc := "(LWingTrams$Night;II)Z" } : Jvm.MethodName)) ∈ lw_tbl := lw_at lw_m6 152 rfl
theorem q1463 : (Jvm.Cond.instanceMethod ({ cls := "WingTrams", name := "areHome", desc := "(LWingTrams$Night;II)Z" } : Jvm.MethodName)) ∈ lw_all := lw_g (lw_at lw_m6 153 rfl) rfl
theorem q1464 : (Jvm.Cond.code ({ cls := "WingTrams", name := "areHome", desc := "(LWingTrams$Night;II)Z" } : Jvm.MethodName) prog_1_method_37_code (5 : Nat) (Option.some Jvm.ClassFile.FieldType.boolean)) ∈ lw_all := lw_g (lw_at lw_m6 154 rfl) rfl
theorem q1465 : (Jvm.Cond.methodLink "WingTrams" (242 : Nat) ({ cls := "java/lang/Math", name := "min", desc := "(II)I" } : Jvm.MethodName)) ∈ lw_all := lw_g (lw_at lw_m6 155 rfl) rfl
theorem q1470 : (Jvm.Cond.instanceMethod ({ cls := "WingTrams", name := "more", desc := "(I)I" } : Jvm.MethodName)) ∈ lw_all := lw_g (lw_at lw_m6 160 rfl) rfl
theorem q1471 : (Jvm.Cond.selects "WingTrams" ({ cls := "WingTrams", name := "more", desc := "(I)I" } : Jvm.MethodName) ({ cls := "WingTrams", name := "more", desc := "(I)I" } : Jvm.MethodName)) ∈ lw_all := lw_g (lw_at lw_m6 161 rfl) rfl
theorem q1472 : (Jvm.Cond.code ({ cls := "WingTrams", name := "more", desc := "(I)I" } : Jvm.MethodName) prog_1_method_40_code (2 : Nat) (Option.some Jvm.ClassFile.FieldType.int)) ∈ lw_all := lw_g (lw_at lw_m6 162 rfl) rfl
theorem q1477 : (Jvm.Cond.instanceMethod ({ cls := "WingTrams", name := "beams", desc := "(III)I" } : Jvm.MethodName)) ∈ lw_all := lw_g (lw_at lw_m6 167 rfl) rfl
theorem q1478 : (Jvm.Cond.selects "WingTrams" ({ cls := "WingTrams", name := "beams", desc := "(III)I" } : Jvm.MethodName) ({ cls := "WingTrams", name := "beams", desc := "(III)I" } : Jvm.MethodName)) ∈ lw_all := lw_g (lw_at lw_m6 168 rfl) rfl
theorem q1479 : (Jvm.Cond.code ({ cls := "WingTrams", name := "beams", desc := "(III)I" } : Jvm.MethodName) prog_1_method_42_code (7 : Nat) (Option.some Jvm.ClassFile.FieldType.int)) ∈ lw_all := lw_g (lw_at lw_m6 169 rfl) rfl
theorem q1480 : (Jvm.Cond.methodLink "WingTrams" (256 : Nat) ({ cls := "WingTrams$City", name := "far", desc := "()[[I" } : Jvm.MethodName)) ∈ lw_all := lw_g (lw_at lw_m6 170 rfl) rfl
theorem q1486 : (Jvm.Cond.methodLink "WingTrams" (260 : Nat) ({ cls := "java/lang/Integer", name := "bitCount", desc := "(I)I" } : Jvm.MethodName)) ∈ lw_all := lw_g (lw_at lw_m6 176 rfl) rfl
theorem q1492 : (Jvm.Cond.methodLink "WingTrams" (265 : Nat) ({ cls := "WingTrams", name := "near", desc := "([[III)I" } : Jvm.MethodName)) ∈ lw_all := lw_g (lw_at lw_m6 182 rfl) rfl
theorem q1493 : (Jvm.Cond.privateMethod ({ cls := "WingTrams", name := "near", desc := "([[III)I" } : Jvm.MethodName)) ∈ lw_tbl := lw_at lw_m6 183 rfl
theorem q1494 : (Jvm.Cond.instanceMethod ({ cls := "WingTrams", name := "near", desc := "([[III)I" } : Jvm.MethodName)) ∈ lw_all := lw_g (lw_at lw_m6 184 rfl) rfl
theorem q1495 : (Jvm.Cond.code ({ cls := "WingTrams", name := "near", desc := "([[III)I" } : Jvm.MethodName) prog_1_method_41_code (8 : Nat) (Option.some Jvm.ClassFile.FieldType.int)) ∈ lw_all := lw_g (lw_at lw_m6 185 rfl) rfl
theorem q1500 : (Jvm.Cond.instanceMethod ({ cls := "WingTrams", name := "straps", desc := "(I)I" } : Jvm.MethodName)) ∈ lw_all := lw_g (lw_at lw_m6 190 rfl) rfl
theorem q1501 : (Jvm.Cond.selects "WingTrams" ({ cls := "WingTrams", name := "straps", desc := "(I)I" } : Jvm.MethodName) ({ cls := "WingTrams", name := "straps", desc := "(I)I" } : Jvm.MethodName)) ∈ lw_all := lw_g (lw_at lw_m6 191 rfl) rfl
theorem q1502 : (Jvm.Cond.code ({ cls := "WingTrams", name := "straps", desc := "(I)I" } : Jvm.MethodName) prog_1_method_43_code (5 : Nat) (Option.some Jvm.ClassFile.FieldType.int)) ∈ lw_all := lw_g (lw_at lw_m6 192 rfl) rfl
theorem q1503 : (Jvm.Cond.classLink "WingTrams" (269 : Nat) "WingTrams$Straps") ∈ lw_all := lw_g (lw_at lw_m6 193 rfl) rfl
theorem q1505 : (Jvm.Cond.methodLink "WingTrams" (271 : Nat) ({ cls := "WingTrams$Straps", name := "<init>", desc := "(LWingTrams;I)V" } : Jvm.MethodName)) ∈ lw_all := lw_g (lw_at lw_m6 195 rfl) rfl
theorem q1526 : (Jvm.Cond.methodLink "WingTrams" (272 : Nat) ({ cls := "WingTrams$Straps", name := "takes", desc := "([I)Z" } : Jvm.MethodName)) ∈ lw_all := lw_g (lw_at lw_m6 216 rfl) rfl
theorem q1550 : (Jvm.Cond.instanceMethod ({ cls := "WingTrams", name := "worth", desc := "(I)I" } : Jvm.MethodName)) ∈ lw_all := lw_g (lw_at lw_m7 0 rfl) rfl
theorem q1551 : (Jvm.Cond.selects "WingTrams" ({ cls := "WingTrams", name := "worth", desc := "(I)I" } : Jvm.MethodName) ({ cls := "WingTrams", name := "worth", desc := "(I)I" } : Jvm.MethodName)) ∈ lw_all := lw_g (lw_at lw_m7 1 rfl) rfl
theorem q1552 : (Jvm.Cond.code ({ cls := "WingTrams", name := "worth", desc := "(I)I" } : Jvm.MethodName) prog_1_method_45_code (2 : Nat) (Option.some Jvm.ClassFile.FieldType.int)) ∈ lw_all := lw_g (lw_at lw_m7 2 rfl) rfl
theorem q1557 : (Jvm.Cond.instanceMethod ({ cls := "WingTrams", name := "see", desc := "(III)I" } : Jvm.MethodName)) ∈ lw_all := lw_g (lw_at lw_m7 7 rfl) rfl
theorem q1558 : (Jvm.Cond.selects "WingTrams" ({ cls := "WingTrams", name := "see", desc := "(III)I" } : Jvm.MethodName) ({ cls := "WingTrams", name := "see", desc := "(III)I" } : Jvm.MethodName)) ∈ lw_all := lw_g (lw_at lw_m7 8 rfl) rfl
theorem q1559 : (Jvm.Cond.code ({ cls := "WingTrams", name := "see", desc := "(III)I" } : Jvm.MethodName) prog_1_method_47_code (4 : Nat) (Option.some Jvm.ClassFile.FieldType.int)) ∈ lw_all := lw_g (lw_at lw_m7 9 rfl) rfl
theorem q1564 : (Jvm.Cond.instanceMethod ({ cls := "WingTrams", name := "bats", desc := "(I)I" } : Jvm.MethodName)) ∈ lw_all := lw_g (lw_at lw_m7 14 rfl) rfl
theorem q1565 : (Jvm.Cond.selects "WingTrams" ({ cls := "WingTrams", name := "bats", desc := "(I)I" } : Jvm.MethodName) ({ cls := "WingTrams", name := "bats", desc := "(I)I" } : Jvm.MethodName)) ∈ lw_all := lw_g (lw_at lw_m7 15 rfl) rfl
theorem q1566 : (Jvm.Cond.code ({ cls := "WingTrams", name := "bats", desc := "(I)I" } : Jvm.MethodName) prog_1_method_58_code (8 : Nat) (Option.some Jvm.ClassFile.FieldType.int)) ∈ lw_all := lw_g (lw_at lw_m7 16 rfl) rfl
theorem q1567 : (Jvm.Cond.methodLink "WingTrams" (302 : Nat) ({ cls := "WingTrams", name := "gain", desc := "(IIZ)I" } : Jvm.MethodName)) ∈ lw_all := lw_g (lw_at lw_m7 17 rfl) rfl
theorem q1568 : (Jvm.Cond.privateMethod ({ cls := "WingTrams", name := "gain", desc := "(IIZ)I" } : Jvm.MethodName)) ∈ lw_tbl := lw_at lw_m7 18 rfl
theorem q1569 : (Jvm.Cond.instanceMethod ({ cls := "WingTrams", name := "gain", desc := "(IIZ)I" } : Jvm.MethodName)) ∈ lw_all := lw_g (lw_at lw_m7 19 rfl) rfl
theorem q1570 : (Jvm.Cond.code ({ cls := "WingTrams", name := "gain", desc := "(IIZ)I" } : Jvm.MethodName) prog_1_method_57_code (6 : Nat) (Option.some Jvm.ClassFile.FieldType.int)) ∈ lw_all := lw_g (lw_at lw_m7 20 rfl) rfl
theorem q1575 : (Jvm.Cond.instanceMethod ({ cls := "WingTrams", name := "years", desc := "(III)I" } : Jvm.MethodName)) ∈ lw_all := lw_g (lw_at lw_m7 25 rfl) rfl
theorem q1576 : (Jvm.Cond.selects "WingTrams" ({ cls := "WingTrams", name := "years", desc := "(III)I" } : Jvm.MethodName) ({ cls := "WingTrams", name := "years", desc := "(III)I" } : Jvm.MethodName)) ∈ lw_all := lw_g (lw_at lw_m7 26 rfl) rfl
theorem q1577 : (Jvm.Cond.code ({ cls := "WingTrams", name := "years", desc := "(III)I" } : Jvm.MethodName) prog_1_method_60_code (10 : Nat) (Option.some Jvm.ClassFile.FieldType.int)) ∈ lw_all := lw_g (lw_at lw_m7 27 rfl) rfl
theorem q1578 : (Jvm.Cond.methodLink "WingTrams" (310 : Nat) ({ cls := "WingTrams", name := "draw", desc := "(I)I" } : Jvm.MethodName)) ∈ lw_all := lw_g (lw_at lw_m7 28 rfl) rfl
theorem q1579 : (Jvm.Cond.privateMethod ({ cls := "WingTrams", name := "draw", desc := "(I)I" } : Jvm.MethodName)) ∈ lw_tbl := lw_at lw_m7 29 rfl
theorem q1580 : (Jvm.Cond.instanceMethod ({ cls := "WingTrams", name := "draw", desc := "(I)I" } : Jvm.MethodName)) ∈ lw_all := lw_g (lw_at lw_m7 30 rfl) rfl
theorem q1581 : (Jvm.Cond.code ({ cls := "WingTrams", name := "draw", desc := "(I)I" } : Jvm.MethodName) prog_1_method_59_code (2 : Nat) (Option.some Jvm.ClassFile.FieldType.int)) ∈ lw_all := lw_g (lw_at lw_m7 31 rfl) rfl
theorem q1582 : (Jvm.Cond.constant "WingTrams" (309 : Nat) (1103515245 : Int32)) ∈ lw_all := lw_g (lw_at lw_m7 32 rfl) rfl
theorem q1587 : (Jvm.Cond.instanceMethod ({ cls := "WingTrams", name := "reach", desc := "(II)I" } : Jvm.MethodName)) ∈ lw_all := lw_g (lw_at lw_m7 37 rfl) rfl
theorem q1588 : (Jvm.Cond.selects "WingTrams" ({ cls := "WingTrams", name := "reach", desc := "(II)I" } : Jvm.MethodName) ({ cls := "WingTrams", name := "reach", desc := "(II)I" } : Jvm.MethodName)) ∈ lw_all := lw_g (lw_at lw_m7 38 rfl) rfl
theorem q1589 : (Jvm.Cond.code ({ cls := "WingTrams", name := "reach", desc := "(II)I" } : Jvm.MethodName) prog_1_method_52_code (7 : Nat) (Option.some Jvm.ClassFile.FieldType.int)) ∈ lw_all := lw_g (lw_at lw_m7 39 rfl) rfl
theorem q1590 : (Jvm.Cond.methodLinkNest "WingTrams" (292 : Nat) ({ cls := "WingTrams$Night", name := "tellSoon", desc := "([I)V" } : Jvm.MethodName) "WingTrams") ∈ lw_tbl := lw_at lw_m7 40 rfl
theorem q1595 : (Jvm.Cond.instanceMethod ({ cls := "WingTrams", name := "late", desc := "(I)I" } : Jvm.MethodName)) ∈ lw_all := lw_g (lw_at lw_m7 45 rfl) rfl
theorem q1596 : (Jvm.Cond.selects "WingTrams" ({ cls := "WingTrams", name := "late", desc := "(I)I" } : Jvm.MethodName) ({ cls := "WingTrams", name := "late", desc := "(I)I" } : Jvm.MethodName)) ∈ lw_all := lw_g (lw_at lw_m7 46 rfl) rfl
theorem q1597 : (Jvm.Cond.code ({ cls := "WingTrams", name := "late", desc := "(I)I" } : Jvm.MethodName) prog_1_method_53_code (8 : Nat) (Option.some Jvm.ClassFile.FieldType.int)) ∈ lw_all := lw_g (lw_at lw_m7 47 rfl) rfl
theorem q2274 : (Jvm.Cond.castable "WingTrams" "java/lang/Object") ∈ lw_tbl := lw_at lw_m10 4 rfl
theorem in_X1 : ∀ w ∈ wsX10, w ∈ lw_all := lw_in wsX10 [265, 267, 269, 271, 273, 275, 277, 279, 281, 283, 285, 287, 289, 291, 293, 295, 297] (by decide +kernel) (by decide +kernel)
