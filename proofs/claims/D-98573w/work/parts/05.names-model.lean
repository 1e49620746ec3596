/-! WingTramsModel -/
set_option maxRecDepth 100000
def RX3 : String := "WingTramsModel"
def TX3 : u_T := fun k => match k with
  | 0 => ("WingTramsModel", "thrown", "I", false)
  | 1 => ("WingTramsModel", "roofs", "I", false)
  | 2 => ("WingTramsModel", "flights", "I", false)
  | 3 => ("WingTramsModel", "owls", "I", false)
  | 4 => ("WingTramsModel", "riders", "I", false)
  | 5 => ("WingTramsModel", "rules", "I", false)
  | 6 => ("WingTramsModel", "dawn", "I", false)
  | 7 => ("WingTramsModel", "flight", "[I", true)
  | 8 => ("WingTramsModel", "kind", "[I", true)
  | 9 => ("WingTramsModel", "wayLong", "[I", true)
  | 10 => ("WingTramsModel", "way", "[I", true)
  | 11 => ("WingTramsModel", "rider", "[I", true)
  | 12 => ("WingTramsModel", "ruleAt", "[I", true)
  | 13 => ("WingTramsModel", "code", "[I", true)
  | 14 => ("WingTramsModel", "tape", "[I", true)
  | 15 => ("WingTramsModel", "taped", "I", false)
  | 16 => ("WingTramsModel", "faultKind", "I", false)
  | 17 => ("WingTramsModel", "faultPlace", "I", false)
  | 18 => ("WingTramsModel", "refused", "[I", true)
  | 19 => ("WingTramsModel", "long1", "I", false)
  | 20 => ("WingTramsModel", "next", "I", false)
  | 21 => ("WingTramsModel", "sort", "I", false)
  | 22 => ("WingTramsModel", "place", "I", false)
  | 23 => ("WingTramsModel", "long0", "I", false)
  | 24 => ("WingTramsModel", "value", "I", false)
  | 25 => ("WingTramsModel", "sign", "I", false)
  | 26 => ("WingTramsModel", "word", "J", false)
  | 27 => ("WingTramsModel", "newRoofs", "I", false)
  | 28 => ("WingTramsModel", "newFlights", "I", false)
  | 29 => ("WingTramsModel", "newOwls", "I", false)
  | 30 => ("WingTramsModel", "newRiders", "I", false)
  | 31 => ("WingTramsModel", "newRules", "I", false)
  | 32 => ("WingTramsModel", "newDawn", "I", false)
  | 33 => ("WingTramsModel", "top", "I", false)
  | 34 => ("WingTramsModel", "waiting", "I", false)
  | 35 => ("WingTramsModel", "depth", "I", false)
  | 36 => ("WingTramsModel", "newGrain", "[I", true)
  | 37 => ("WingTramsModel", "newFlight", "[I", true)
  | 38 => ("WingTramsModel", "newKind", "[I", true)
  | 39 => ("WingTramsModel", "newMinute", "[I", true)
  | 40 => ("WingTramsModel", "newLong", "[I", true)
  | 41 => ("WingTramsModel", "newWay", "[I", true)
  | 42 => ("WingTramsModel", "newRider", "[I", true)
  | 43 => ("WingTramsModel", "newRuleAt", "[I", true)
  | 44 => ("WingTramsModel", "readCode", "[I", true)
  | 45 => ("WingTramsModel", "waits", "[I", true)
  | 46 => ("WingTramsModel", "tested", "[Z", true)
  | 47 => ("WingTramsModel", "now", "[I", true)
  | 48 => ("WingTramsModel", "then", "[I", true)
  | 49 => ("WingTramsModel", "act", "[I", true)
  | 50 => ("WingTramsModel", "acts", "I", false)
  | 51 => ("WingTramsModel", "far", "[I", true)
  | 52 => ("WingTramsModel", "told", "[I", true)
  | 53 => ("WingTramsModel", "pile", "[I", true)
  | 54 => ("WingTramsModel", "comes", "[I", true)
  | 55 => ("WingTramsModel", "leaves", "[I", true)
  | 56 => ("WingTramsModel", "mice", "[I", true)
  | 57 => ("WingTramsModel", "caught", "[I", true)
  | 58 => ("WingTramsModel", "at", "[I", true)
  | 59 => ("WingTramsModel", "in", "[I", true)
  | 60 => ("WingTramsModel", "soon", "[I", true)
  | 61 => ("WingTramsModel", "soonThen", "[I", true)
  | 62 => ("WingTramsModel", "soonBy", "[I", true)
  | 63 => ("WingTramsModel", "row", "[I", true)
  | 64 => ("WingTramsModel", "tried", "[I", true)
  | 65 => ("WingTramsModel", "hasRow", "Z", false)
  | 66 => ("WingTramsModel", "hung", "[I", true)
  | 67 => ("WingTramsModel", "seenMany", "I", false)
  | 68 => ("WingTramsModel", "seen", "[I", true)
  | 69 => ("WingTramsModel", "often", "[I", true)
  | 70 => ("WingTramsModel", "hasImage", "Z", false)
  | 71 => ("WingTramsModel", "imageActs", "I", false)
  | 72 => ("WingTramsModel", "imageSeen", "I", false)
  | 73 => ("WingTramsModel", "imageNow", "[I", true)
  | 74 => ("WingTramsModel", "imageAct", "[I", true)
  | _ => ("WingTramsModel", "imageSees", "[I", true)
def tyX3 : Nat → FieldType := fun k => match k with
  | 0 => .int
  | 1 => .int
  | 2 => .int
  | 3 => .int
  | 4 => .int
  | 5 => .int
  | 6 => .int
  | 7 => .array .int
  | 8 => .array .int
  | 9 => .array .int
  | 10 => .array .int
  | 11 => .array .int
  | 12 => .array .int
  | 13 => .array .int
  | 14 => .array .int
  | 15 => .int
  | 16 => .int
  | 17 => .int
  | 18 => .array .int
  | 19 => .int
  | 20 => .int
  | 21 => .int
  | 22 => .int
  | 23 => .int
  | 24 => .int
  | 25 => .int
  | 26 => .long
  | 27 => .int
  | 28 => .int
  | 29 => .int
  | 30 => .int
  | 31 => .int
  | 32 => .int
  | 33 => .int
  | 34 => .int
  | 35 => .int
  | 36 => .array .int
  | 37 => .array .int
  | 38 => .array .int
  | 39 => .array .int
  | 40 => .array .int
  | 41 => .array .int
  | 42 => .array .int
  | 43 => .array .int
  | 44 => .array .int
  | 45 => .array .int
  | 46 => .array .boolean
  | 47 => .array .int
  | 48 => .array .int
  | 49 => .array .int
  | 50 => .int
  | 51 => .array .int
  | 52 => .array .int
  | 53 => .array .int
  | 54 => .array .int
  | 55 => .array .int
  | 56 => .array .int
  | 57 => .array .int
  | 58 => .array .int
  | 59 => .array .int
  | 60 => .array .int
  | 61 => .array .int
  | 62 => .array .int
  | 63 => .array .int
  | 64 => .array .int
  | 65 => .boolean
  | 66 => .array .int
  | 67 => .int
  | 68 => .array .int
  | 69 => .array .int
  | 70 => .boolean
  | 71 => .int
  | 72 => .int
  | 73 => .array .int
  | 74 => .array .int
  | _ => .array .int
abbrev wsX30 : List Cond := u_ws RX3 TX3 76
set_option maxRecDepth 100000 in
theorem nmX3 : ∀ a, a < 76 → ∀ b, b < 76 → a ≠ b → (TX3 a).2.1 ≠ (TX3 b).2.1 := by decide +kernel
set_option maxRecDepth 100000 in
theorem tyX3_ok : ∀ k, k < 76 → parseFieldDescriptor (TX3 k).2.2.1 = some (tyX3 k) := by decide +kernel
abbrev cX3_init : ByteArray := prog_14_method_1_code
def yX3_init : MethodName := ⟨RX3, "<init>", "()V"⟩
def dkwX3_init_19 : List UInt8 := [177]
abbrev dktX3_init_19 : List UInt8 := dkwX3_init_19 ++ []
def dkwX3_init_18 : List UInt8 := [42, 16, 19, 188, 10, 181, 0, 138, 42, 16, 80, 188, 10, 181, 0, 141, 42, 16, 24, 188, 10, 181, 0, 144]
abbrev dktX3_init_18 : List UInt8 := dkwX3_init_18 ++ dktX3_init_19
def dkwX3_init_17 : List UInt8 := [42, 16, 40, 188, 10, 181, 0, 129, 42, 16, 24, 188, 10, 181, 0, 132, 42, 16, 10, 188, 10, 181, 0, 135]
abbrev dktX3_init_17 : List UInt8 := dkwX3_init_17 ++ dktX3_init_18
def dkwX3_init_16 : List UInt8 := [17, 1, 144, 188, 10, 181, 0, 120, 42, 16, 10, 188, 10, 181, 0, 123, 42, 16, 10, 188, 10, 181, 0, 126]
abbrev dktX3_init_16 : List UInt8 := dkwX3_init_16 ++ dktX3_init_17
def dkwX3_init_15 : List UInt8 := [188, 10, 181, 0, 111, 42, 16, 10, 188, 10, 181, 0, 114, 42, 16, 10, 188, 10, 181, 0, 117, 42]
abbrev dktX3_init_15 : List UInt8 := dkwX3_init_15 ++ dktX3_init_16
def dkwX3_init_14 : List UInt8 := [42, 16, 10, 188, 10, 181, 0, 102, 42, 8, 188, 10, 181, 0, 105, 42, 8, 188, 10, 181, 0, 108, 42, 8]
abbrev dktX3_init_14 : List UInt8 := dkwX3_init_14 ++ dktX3_init_15
def dkwX3_init_13 : List UInt8 := [17, 3, 182, 188, 10, 181, 0, 93, 42, 16, 40, 188, 10, 181, 0, 96, 42, 16, 40, 188, 10, 181, 0, 99]
abbrev dktX3_init_13 : List UInt8 := dkwX3_init_13 ++ dktX3_init_14
def dkwX3_init_12 : List UInt8 := [16, 80, 188, 10, 181, 0, 84, 42, 16, 100, 188, 10, 181, 0, 87, 42, 16, 7, 188, 10, 181, 0, 90, 42]
abbrev dktX3_init_12 : List UInt8 := dkwX3_init_12 ++ dktX3_init_13
def dkwX3_init_11 : List UInt8 := [79, 89, 16, 17, 3, 79, 89, 16, 18, 3, 79, 181, 0, 78, 42, 16, 19, 188, 10, 181, 0, 81, 42]
abbrev dktX3_init_11 : List UInt8 := dkwX3_init_11 ++ dktX3_init_12
def dkwX3_init_10 : List UInt8 := [89, 16, 12, 3, 79, 89, 16, 13, 3, 79, 89, 16, 14, 3, 79, 89, 16, 15, 3, 79, 89, 16, 16, 3]
abbrev dktX3_init_10 : List UInt8 := dkwX3_init_10 ++ dktX3_init_11
def dkwX3_init_9 : List UInt8 := [16, 7, 3, 79, 89, 16, 8, 3, 79, 89, 16, 9, 3, 79, 89, 16, 10, 3, 79, 89, 16, 11, 3, 79]
abbrev dktX3_init_9 : List UInt8 := dkwX3_init_9 ++ dktX3_init_10
def dkwX3_init_8 : List UInt8 := [3, 79, 89, 5, 3, 79, 89, 6, 3, 79, 89, 7, 3, 79, 89, 8, 3, 79, 89, 16, 6, 3, 79, 89]
abbrev dktX3_init_8 : List UInt8 := dkwX3_init_8 ++ dktX3_init_9
def dkwX3_init_7 : List UInt8 := [188, 10, 181, 0, 71, 42, 16, 9, 188, 4, 181, 0, 74, 42, 16, 19, 188, 10, 89, 3, 2, 79, 89, 4]
abbrev dktX3_init_7 : List UInt8 := dkwX3_init_7 ++ dktX3_init_8
def dkwX3_init_6 : List UInt8 := [181, 0, 62, 42, 7, 188, 10, 181, 0, 65, 42, 17, 10, 240, 188, 10, 181, 0, 68, 42, 17, 3, 182]
abbrev dktX3_init_6 : List UInt8 := dkwX3_init_6 ++ dktX3_init_7
def dkwX3_init_5 : List UInt8 := [181, 0, 53, 42, 8, 188, 10, 181, 0, 56, 42, 16, 40, 188, 10, 181, 0, 59, 42, 16, 32, 188, 10]
abbrev dktX3_init_5 : List UInt8 := dkwX3_init_5 ++ dktX3_init_6
def dkwX3_init_4 : List UInt8 := [181, 0, 44, 42, 16, 100, 188, 10, 181, 0, 47, 42, 8, 188, 10, 181, 0, 50, 42, 8, 188, 10]
abbrev dktX3_init_4 : List UInt8 := dkwX3_init_4 ++ dktX3_init_5
def dkwX3_init_3 : List UInt8 := [188, 10, 181, 0, 35, 42, 2, 181, 0, 38, 42, 6, 188, 10, 181, 0, 41, 42, 16, 10, 188, 10]
abbrev dktX3_init_3 : List UInt8 := dkwX3_init_3 ++ dktX3_init_4
def dkwX3_init_2 : List UInt8 := [181, 0, 26, 42, 7, 188, 10, 181, 0, 29, 42, 17, 10, 240, 188, 10, 181, 0, 32, 42, 17, 2, 188]
abbrev dktX3_init_2 : List UInt8 := dkwX3_init_2 ++ dktX3_init_3
def dkwX3_init_1 : List UInt8 := [181, 0, 17, 42, 8, 188, 10, 181, 0, 20, 42, 16, 40, 188, 10, 181, 0, 23, 42, 16, 32, 188, 10]
abbrev dktX3_init_1 : List UInt8 := dkwX3_init_1 ++ dktX3_init_2
def dkwX3_init_0 : List UInt8 := [42, 183, 0, 1, 42, 17, 1, 104, 181, 0, 7, 42, 16, 100, 188, 10, 181, 0, 13, 42, 8, 188, 10]
abbrev dktX3_init_0 : List UInt8 := dkwX3_init_0 ++ dktX3_init_1
theorem dksX3_init_0 : cX3_init.data.toList.drop 0 = dktX3_init_0 := by decide +kernel
theorem dksX3_init_1 : cX3_init.data.toList.drop 23 = dktX3_init_1 := dk_seg dksX3_init_0 23 rfl rfl
theorem dksX3_init_2 : cX3_init.data.toList.drop 46 = dktX3_init_2 := dk_seg dksX3_init_1 23 rfl rfl
theorem dksX3_init_3 : cX3_init.data.toList.drop 69 = dktX3_init_3 := dk_seg dksX3_init_2 23 rfl rfl
theorem dksX3_init_4 : cX3_init.data.toList.drop 91 = dktX3_init_4 := dk_seg dksX3_init_3 22 rfl rfl
theorem dksX3_init_5 : cX3_init.data.toList.drop 113 = dktX3_init_5 := dk_seg dksX3_init_4 22 rfl rfl
theorem dksX3_init_6 : cX3_init.data.toList.drop 136 = dktX3_init_6 := dk_seg dksX3_init_5 23 rfl rfl
theorem dksX3_init_7 : cX3_init.data.toList.drop 159 = dktX3_init_7 := dk_seg dksX3_init_6 23 rfl rfl
theorem dksX3_init_8 : cX3_init.data.toList.drop 183 = dktX3_init_8 := dk_seg dksX3_init_7 24 rfl rfl
theorem dksX3_init_9 : cX3_init.data.toList.drop 207 = dktX3_init_9 := dk_seg dksX3_init_8 24 rfl rfl
theorem dksX3_init_10 : cX3_init.data.toList.drop 231 = dktX3_init_10 := dk_seg dksX3_init_9 24 rfl rfl
theorem dksX3_init_11 : cX3_init.data.toList.drop 255 = dktX3_init_11 := dk_seg dksX3_init_10 24 rfl rfl
theorem dksX3_init_12 : cX3_init.data.toList.drop 278 = dktX3_init_12 := dk_seg dksX3_init_11 23 rfl rfl
theorem dksX3_init_13 : cX3_init.data.toList.drop 302 = dktX3_init_13 := dk_seg dksX3_init_12 24 rfl rfl
theorem dksX3_init_14 : cX3_init.data.toList.drop 326 = dktX3_init_14 := dk_seg dksX3_init_13 24 rfl rfl
theorem dksX3_init_15 : cX3_init.data.toList.drop 350 = dktX3_init_15 := dk_seg dksX3_init_14 24 rfl rfl
theorem dksX3_init_16 : cX3_init.data.toList.drop 372 = dktX3_init_16 := dk_seg dksX3_init_15 22 rfl rfl
theorem dksX3_init_17 : cX3_init.data.toList.drop 396 = dktX3_init_17 := dk_seg dksX3_init_16 24 rfl rfl
theorem dksX3_init_18 : cX3_init.data.toList.drop 420 = dktX3_init_18 := dk_seg dksX3_init_17 24 rfl rfl
theorem dksX3_init_19 : cX3_init.data.toList.drop 444 = dktX3_init_19 := dk_seg dksX3_init_18 24 rfl rfl
theorem dX3_init_0 : decode cX3_init 0 = .ok (.aload_n 0, 1) := dk_42 (dk_at dksX3_init_0 0 rfl rfl)
theorem dX3_init_1 : decode cX3_init 1 = .ok (.invokespecial 1, 3) := dk_183 0 1 (dk_at dksX3_init_0 1 rfl rfl)
theorem dX3_init_4 : decode cX3_init 4 = .ok (.aload_n 0, 1) := dk_42 (dk_at dksX3_init_0 4 rfl rfl)
theorem dX3_init_5 : decode cX3_init 5 = .ok (.sipush 360, 3) := dk_17 1 104 (dk_at dksX3_init_0 5 rfl rfl)
theorem dX3_init_8 : decode cX3_init 8 = .ok (.putfield 7, 3) := dk_181 0 7 (dk_at dksX3_init_0 8 rfl rfl)
theorem dX3_init_11 : decode cX3_init 11 = .ok (.aload_n 0, 1) := dk_42 (dk_at dksX3_init_0 11 rfl rfl)
theorem dX3_init_12 : decode cX3_init 12 = .ok (.bipush 100, 2) := dk_16 100 (dk_at dksX3_init_0 12 rfl rfl)
theorem dX3_init_14 : decode cX3_init 14 = .ok (.newarray .int, 2) := dk_188_10 (dk_at dksX3_init_0 14 rfl rfl)
theorem dX3_init_16 : decode cX3_init 16 = .ok (.putfield 13, 3) := dk_181 0 13 (dk_at dksX3_init_0 16 rfl rfl)
theorem dX3_init_19 : decode cX3_init 19 = .ok (.aload_n 0, 1) := dk_42 (dk_at dksX3_init_0 19 rfl rfl)
theorem dX3_init_20 : decode cX3_init 20 = .ok (.iconst 5, 1) := dk_8 (dk_at dksX3_init_0 20 rfl rfl)
theorem dX3_init_21 : decode cX3_init 21 = .ok (.newarray .int, 2) := dk_188_10 (dk_at dksX3_init_0 21 rfl rfl)
theorem dX3_init_23 : decode cX3_init 23 = .ok (.putfield 17, 3) := dk_181 0 17 (dk_at dksX3_init_1 0 rfl rfl)
theorem dX3_init_26 : decode cX3_init 26 = .ok (.aload_n 0, 1) := dk_42 (dk_at dksX3_init_1 3 rfl rfl)
theorem dX3_init_27 : decode cX3_init 27 = .ok (.iconst 5, 1) := dk_8 (dk_at dksX3_init_1 4 rfl rfl)
theorem dX3_init_28 : decode cX3_init 28 = .ok (.newarray .int, 2) := dk_188_10 (dk_at dksX3_init_1 5 rfl rfl)
theorem dX3_init_30 : decode cX3_init 30 = .ok (.putfield 20, 3) := dk_181 0 20 (dk_at dksX3_init_1 7 rfl rfl)
theorem dX3_init_33 : decode cX3_init 33 = .ok (.aload_n 0, 1) := dk_42 (dk_at dksX3_init_1 10 rfl rfl)
theorem dX3_init_34 : decode cX3_init 34 = .ok (.bipush 40, 2) := dk_16 40 (dk_at dksX3_init_1 11 rfl rfl)
theorem dX3_init_36 : decode cX3_init 36 = .ok (.newarray .int, 2) := dk_188_10 (dk_at dksX3_init_1 13 rfl rfl)
theorem dX3_init_38 : decode cX3_init 38 = .ok (.putfield 23, 3) := dk_181 0 23 (dk_at dksX3_init_1 15 rfl rfl)
theorem dX3_init_41 : decode cX3_init 41 = .ok (.aload_n 0, 1) := dk_42 (dk_at dksX3_init_1 18 rfl rfl)
theorem dX3_init_42 : decode cX3_init 42 = .ok (.bipush 32, 2) := dk_16 32 (dk_at dksX3_init_1 19 rfl rfl)
theorem dX3_init_44 : decode cX3_init 44 = .ok (.newarray .int, 2) := dk_188_10 (dk_at dksX3_init_1 21 rfl rfl)
theorem dX3_init_46 : decode cX3_init 46 = .ok (.putfield 26, 3) := dk_181 0 26 (dk_at dksX3_init_2 0 rfl rfl)
theorem dX3_init_49 : decode cX3_init 49 = .ok (.aload_n 0, 1) := dk_42 (dk_at dksX3_init_2 3 rfl rfl)
theorem dX3_init_50 : decode cX3_init 50 = .ok (.iconst 4, 1) := dk_7 (dk_at dksX3_init_2 4 rfl rfl)
theorem dX3_init_51 : decode cX3_init 51 = .ok (.newarray .int, 2) := dk_188_10 (dk_at dksX3_init_2 5 rfl rfl)
theorem dX3_init_53 : decode cX3_init 53 = .ok (.putfield 29, 3) := dk_181 0 29 (dk_at dksX3_init_2 7 rfl rfl)
theorem dX3_init_56 : decode cX3_init 56 = .ok (.aload_n 0, 1) := dk_42 (dk_at dksX3_init_2 10 rfl rfl)
theorem dX3_init_57 : decode cX3_init 57 = .ok (.sipush 2800, 3) := dk_17 10 240 (dk_at dksX3_init_2 11 rfl rfl)
theorem dX3_init_60 : decode cX3_init 60 = .ok (.newarray .int, 2) := dk_188_10 (dk_at dksX3_init_2 14 rfl rfl)
theorem dX3_init_62 : decode cX3_init 62 = .ok (.putfield 32, 3) := dk_181 0 32 (dk_at dksX3_init_2 16 rfl rfl)
theorem dX3_init_65 : decode cX3_init 65 = .ok (.aload_n 0, 1) := dk_42 (dk_at dksX3_init_2 19 rfl rfl)
theorem dX3_init_66 : decode cX3_init 66 = .ok (.sipush 700, 3) := dk_17 2 188 (dk_at dksX3_init_2 20 rfl rfl)
theorem dX3_init_69 : decode cX3_init 69 = .ok (.newarray .int, 2) := dk_188_10 (dk_at dksX3_init_3 0 rfl rfl)
theorem dX3_init_71 : decode cX3_init 71 = .ok (.putfield 35, 3) := dk_181 0 35 (dk_at dksX3_init_3 2 rfl rfl)
theorem dX3_init_74 : decode cX3_init 74 = .ok (.aload_n 0, 1) := dk_42 (dk_at dksX3_init_3 5 rfl rfl)
theorem dX3_init_75 : decode cX3_init 75 = .ok (.iconst (-1), 1) := dk_2 (dk_at dksX3_init_3 6 rfl rfl)
theorem dX3_init_76 : decode cX3_init 76 = .ok (.putfield 38, 3) := dk_181 0 38 (dk_at dksX3_init_3 7 rfl rfl)
theorem dX3_init_79 : decode cX3_init 79 = .ok (.aload_n 0, 1) := dk_42 (dk_at dksX3_init_3 10 rfl rfl)
theorem dX3_init_80 : decode cX3_init 80 = .ok (.iconst 3, 1) := dk_6 (dk_at dksX3_init_3 11 rfl rfl)
theorem dX3_init_81 : decode cX3_init 81 = .ok (.newarray .int, 2) := dk_188_10 (dk_at dksX3_init_3 12 rfl rfl)
theorem dX3_init_83 : decode cX3_init 83 = .ok (.putfield 41, 3) := dk_181 0 41 (dk_at dksX3_init_3 14 rfl rfl)
theorem dX3_init_86 : decode cX3_init 86 = .ok (.aload_n 0, 1) := dk_42 (dk_at dksX3_init_3 17 rfl rfl)
theorem dX3_init_87 : decode cX3_init 87 = .ok (.bipush 10, 2) := dk_16 10 (dk_at dksX3_init_3 18 rfl rfl)
theorem dX3_init_89 : decode cX3_init 89 = .ok (.newarray .int, 2) := dk_188_10 (dk_at dksX3_init_3 20 rfl rfl)
theorem dX3_init_91 : decode cX3_init 91 = .ok (.putfield 44, 3) := dk_181 0 44 (dk_at dksX3_init_4 0 rfl rfl)
theorem dX3_init_94 : decode cX3_init 94 = .ok (.aload_n 0, 1) := dk_42 (dk_at dksX3_init_4 3 rfl rfl)
theorem dX3_init_95 : decode cX3_init 95 = .ok (.bipush 100, 2) := dk_16 100 (dk_at dksX3_init_4 4 rfl rfl)
theorem dX3_init_97 : decode cX3_init 97 = .ok (.newarray .int, 2) := dk_188_10 (dk_at dksX3_init_4 6 rfl rfl)
theorem dX3_init_99 : decode cX3_init 99 = .ok (.putfield 47, 3) := dk_181 0 47 (dk_at dksX3_init_4 8 rfl rfl)
theorem dX3_init_102 : decode cX3_init 102 = .ok (.aload_n 0, 1) := dk_42 (dk_at dksX3_init_4 11 rfl rfl)
theorem dX3_init_103 : decode cX3_init 103 = .ok (.iconst 5, 1) := dk_8 (dk_at dksX3_init_4 12 rfl rfl)
theorem dX3_init_104 : decode cX3_init 104 = .ok (.newarray .int, 2) := dk_188_10 (dk_at dksX3_init_4 13 rfl rfl)
theorem dX3_init_106 : decode cX3_init 106 = .ok (.putfield 50, 3) := dk_181 0 50 (dk_at dksX3_init_4 15 rfl rfl)
theorem dX3_init_109 : decode cX3_init 109 = .ok (.aload_n 0, 1) := dk_42 (dk_at dksX3_init_4 18 rfl rfl)
theorem dX3_init_110 : decode cX3_init 110 = .ok (.iconst 5, 1) := dk_8 (dk_at dksX3_init_4 19 rfl rfl)
theorem dX3_init_111 : decode cX3_init 111 = .ok (.newarray .int, 2) := dk_188_10 (dk_at dksX3_init_4 20 rfl rfl)
theorem dX3_init_113 : decode cX3_init 113 = .ok (.putfield 53, 3) := dk_181 0 53 (dk_at dksX3_init_5 0 rfl rfl)
theorem dX3_init_116 : decode cX3_init 116 = .ok (.aload_n 0, 1) := dk_42 (dk_at dksX3_init_5 3 rfl rfl)
theorem dX3_init_117 : decode cX3_init 117 = .ok (.iconst 5, 1) := dk_8 (dk_at dksX3_init_5 4 rfl rfl)
theorem dX3_init_118 : decode cX3_init 118 = .ok (.newarray .int, 2) := dk_188_10 (dk_at dksX3_init_5 5 rfl rfl)
theorem dX3_init_120 : decode cX3_init 120 = .ok (.putfield 56, 3) := dk_181 0 56 (dk_at dksX3_init_5 7 rfl rfl)
theorem dX3_init_123 : decode cX3_init 123 = .ok (.aload_n 0, 1) := dk_42 (dk_at dksX3_init_5 10 rfl rfl)
theorem dX3_init_124 : decode cX3_init 124 = .ok (.bipush 40, 2) := dk_16 40 (dk_at dksX3_init_5 11 rfl rfl)
theorem dX3_init_126 : decode cX3_init 126 = .ok (.newarray .int, 2) := dk_188_10 (dk_at dksX3_init_5 13 rfl rfl)
theorem dX3_init_128 : decode cX3_init 128 = .ok (.putfield 59, 3) := dk_181 0 59 (dk_at dksX3_init_5 15 rfl rfl)
theorem dX3_init_131 : decode cX3_init 131 = .ok (.aload_n 0, 1) := dk_42 (dk_at dksX3_init_5 18 rfl rfl)
theorem dX3_init_132 : decode cX3_init 132 = .ok (.bipush 32, 2) := dk_16 32 (dk_at dksX3_init_5 19 rfl rfl)
theorem dX3_init_134 : decode cX3_init 134 = .ok (.newarray .int, 2) := dk_188_10 (dk_at dksX3_init_5 21 rfl rfl)
theorem dX3_init_136 : decode cX3_init 136 = .ok (.putfield 62, 3) := dk_181 0 62 (dk_at dksX3_init_6 0 rfl rfl)
theorem dX3_init_139 : decode cX3_init 139 = .ok (.aload_n 0, 1) := dk_42 (dk_at dksX3_init_6 3 rfl rfl)
theorem dX3_init_140 : decode cX3_init 140 = .ok (.iconst 4, 1) := dk_7 (dk_at dksX3_init_6 4 rfl rfl)
theorem dX3_init_141 : decode cX3_init 141 = .ok (.newarray .int, 2) := dk_188_10 (dk_at dksX3_init_6 5 rfl rfl)
theorem dX3_init_143 : decode cX3_init 143 = .ok (.putfield 65, 3) := dk_181 0 65 (dk_at dksX3_init_6 7 rfl rfl)
theorem dX3_init_146 : decode cX3_init 146 = .ok (.aload_n 0, 1) := dk_42 (dk_at dksX3_init_6 10 rfl rfl)
theorem dX3_init_147 : decode cX3_init 147 = .ok (.sipush 2800, 3) := dk_17 10 240 (dk_at dksX3_init_6 11 rfl rfl)
theorem dX3_init_150 : decode cX3_init 150 = .ok (.newarray .int, 2) := dk_188_10 (dk_at dksX3_init_6 14 rfl rfl)
theorem dX3_init_152 : decode cX3_init 152 = .ok (.putfield 68, 3) := dk_181 0 68 (dk_at dksX3_init_6 16 rfl rfl)
theorem dX3_init_155 : decode cX3_init 155 = .ok (.aload_n 0, 1) := dk_42 (dk_at dksX3_init_6 19 rfl rfl)
theorem dX3_init_156 : decode cX3_init 156 = .ok (.sipush 950, 3) := dk_17 3 182 (dk_at dksX3_init_6 20 rfl rfl)
theorem dX3_init_159 : decode cX3_init 159 = .ok (.newarray .int, 2) := dk_188_10 (dk_at dksX3_init_7 0 rfl rfl)
theorem dX3_init_161 : decode cX3_init 161 = .ok (.putfield 71, 3) := dk_181 0 71 (dk_at dksX3_init_7 2 rfl rfl)
theorem dX3_init_164 : decode cX3_init 164 = .ok (.aload_n 0, 1) := dk_42 (dk_at dksX3_init_7 5 rfl rfl)
theorem dX3_init_165 : decode cX3_init 165 = .ok (.bipush 9, 2) := dk_16 9 (dk_at dksX3_init_7 6 rfl rfl)
theorem dX3_init_167 : decode cX3_init 167 = .ok (.newarray .boolean, 2) := dk_188_4 (dk_at dksX3_init_7 8 rfl rfl)
theorem dX3_init_169 : decode cX3_init 169 = .ok (.putfield 74, 3) := dk_181 0 74 (dk_at dksX3_init_7 10 rfl rfl)
theorem dX3_init_172 : decode cX3_init 172 = .ok (.aload_n 0, 1) := dk_42 (dk_at dksX3_init_7 13 rfl rfl)
theorem dX3_init_173 : decode cX3_init 173 = .ok (.bipush 19, 2) := dk_16 19 (dk_at dksX3_init_7 14 rfl rfl)
theorem dX3_init_175 : decode cX3_init 175 = .ok (.newarray .int, 2) := dk_188_10 (dk_at dksX3_init_7 16 rfl rfl)
theorem dX3_init_177 : decode cX3_init 177 = .ok (.dup, 1) := dk_89 (dk_at dksX3_init_7 18 rfl rfl)
theorem dX3_init_178 : decode cX3_init 178 = .ok (.iconst 0, 1) := dk_3 (dk_at dksX3_init_7 19 rfl rfl)
theorem dX3_init_179 : decode cX3_init 179 = .ok (.iconst (-1), 1) := dk_2 (dk_at dksX3_init_7 20 rfl rfl)
theorem dX3_init_180 : decode cX3_init 180 = .ok (.iastore, 1) := dk_79 (dk_at dksX3_init_7 21 rfl rfl)
theorem dX3_init_181 : decode cX3_init 181 = .ok (.dup, 1) := dk_89 (dk_at dksX3_init_7 22 rfl rfl)
theorem dX3_init_182 : decode cX3_init 182 = .ok (.iconst 1, 1) := dk_4 (dk_at dksX3_init_7 23 rfl rfl)
theorem dX3_init_183 : decode cX3_init 183 = .ok (.iconst 0, 1) := dk_3 (dk_at dksX3_init_8 0 rfl rfl)
theorem dX3_init_184 : decode cX3_init 184 = .ok (.iastore, 1) := dk_79 (dk_at dksX3_init_8 1 rfl rfl)
theorem dX3_init_185 : decode cX3_init 185 = .ok (.dup, 1) := dk_89 (dk_at dksX3_init_8 2 rfl rfl)
theorem dX3_init_186 : decode cX3_init 186 = .ok (.iconst 2, 1) := dk_5 (dk_at dksX3_init_8 3 rfl rfl)
theorem dX3_init_187 : decode cX3_init 187 = .ok (.iconst 0, 1) := dk_3 (dk_at dksX3_init_8 4 rfl rfl)
theorem dX3_init_188 : decode cX3_init 188 = .ok (.iastore, 1) := dk_79 (dk_at dksX3_init_8 5 rfl rfl)
theorem dX3_init_189 : decode cX3_init 189 = .ok (.dup, 1) := dk_89 (dk_at dksX3_init_8 6 rfl rfl)
theorem dX3_init_190 : decode cX3_init 190 = .ok (.iconst 3, 1) := dk_6 (dk_at dksX3_init_8 7 rfl rfl)
theorem dX3_init_191 : decode cX3_init 191 = .ok (.iconst 0, 1) := dk_3 (dk_at dksX3_init_8 8 rfl rfl)
theorem dX3_init_192 : decode cX3_init 192 = .ok (.iastore, 1) := dk_79 (dk_at dksX3_init_8 9 rfl rfl)
theorem dX3_init_193 : decode cX3_init 193 = .ok (.dup, 1) := dk_89 (dk_at dksX3_init_8 10 rfl rfl)
theorem dX3_init_194 : decode cX3_init 194 = .ok (.iconst 4, 1) := dk_7 (dk_at dksX3_init_8 11 rfl rfl)
theorem dX3_init_195 : decode cX3_init 195 = .ok (.iconst 0, 1) := dk_3 (dk_at dksX3_init_8 12 rfl rfl)
theorem dX3_init_196 : decode cX3_init 196 = .ok (.iastore, 1) := dk_79 (dk_at dksX3_init_8 13 rfl rfl)
theorem dX3_init_197 : decode cX3_init 197 = .ok (.dup, 1) := dk_89 (dk_at dksX3_init_8 14 rfl rfl)
theorem dX3_init_198 : decode cX3_init 198 = .ok (.iconst 5, 1) := dk_8 (dk_at dksX3_init_8 15 rfl rfl)
theorem dX3_init_199 : decode cX3_init 199 = .ok (.iconst 0, 1) := dk_3 (dk_at dksX3_init_8 16 rfl rfl)
theorem dX3_init_200 : decode cX3_init 200 = .ok (.iastore, 1) := dk_79 (dk_at dksX3_init_8 17 rfl rfl)
theorem dX3_init_201 : decode cX3_init 201 = .ok (.dup, 1) := dk_89 (dk_at dksX3_init_8 18 rfl rfl)
theorem dX3_init_202 : decode cX3_init 202 = .ok (.bipush 6, 2) := dk_16 6 (dk_at dksX3_init_8 19 rfl rfl)
theorem dX3_init_204 : decode cX3_init 204 = .ok (.iconst 0, 1) := dk_3 (dk_at dksX3_init_8 21 rfl rfl)
theorem dX3_init_205 : decode cX3_init 205 = .ok (.iastore, 1) := dk_79 (dk_at dksX3_init_8 22 rfl rfl)
theorem dX3_init_206 : decode cX3_init 206 = .ok (.dup, 1) := dk_89 (dk_at dksX3_init_8 23 rfl rfl)
theorem dX3_init_207 : decode cX3_init 207 = .ok (.bipush 7, 2) := dk_16 7 (dk_at dksX3_init_9 0 rfl rfl)
theorem dX3_init_209 : decode cX3_init 209 = .ok (.iconst 0, 1) := dk_3 (dk_at dksX3_init_9 2 rfl rfl)
theorem dX3_init_210 : decode cX3_init 210 = .ok (.iastore, 1) := dk_79 (dk_at dksX3_init_9 3 rfl rfl)
theorem dX3_init_211 : decode cX3_init 211 = .ok (.dup, 1) := dk_89 (dk_at dksX3_init_9 4 rfl rfl)
theorem dX3_init_212 : decode cX3_init 212 = .ok (.bipush 8, 2) := dk_16 8 (dk_at dksX3_init_9 5 rfl rfl)
theorem dX3_init_214 : decode cX3_init 214 = .ok (.iconst 0, 1) := dk_3 (dk_at dksX3_init_9 7 rfl rfl)
theorem dX3_init_215 : decode cX3_init 215 = .ok (.iastore, 1) := dk_79 (dk_at dksX3_init_9 8 rfl rfl)
theorem dX3_init_216 : decode cX3_init 216 = .ok (.dup, 1) := dk_89 (dk_at dksX3_init_9 9 rfl rfl)
theorem dX3_init_217 : decode cX3_init 217 = .ok (.bipush 9, 2) := dk_16 9 (dk_at dksX3_init_9 10 rfl rfl)
theorem dX3_init_219 : decode cX3_init 219 = .ok (.iconst 0, 1) := dk_3 (dk_at dksX3_init_9 12 rfl rfl)
theorem dX3_init_220 : decode cX3_init 220 = .ok (.iastore, 1) := dk_79 (dk_at dksX3_init_9 13 rfl rfl)
theorem dX3_init_221 : decode cX3_init 221 = .ok (.dup, 1) := dk_89 (dk_at dksX3_init_9 14 rfl rfl)
theorem dX3_init_222 : decode cX3_init 222 = .ok (.bipush 10, 2) := dk_16 10 (dk_at dksX3_init_9 15 rfl rfl)
theorem dX3_init_224 : decode cX3_init 224 = .ok (.iconst 0, 1) := dk_3 (dk_at dksX3_init_9 17 rfl rfl)
theorem dX3_init_225 : decode cX3_init 225 = .ok (.iastore, 1) := dk_79 (dk_at dksX3_init_9 18 rfl rfl)
theorem dX3_init_226 : decode cX3_init 226 = .ok (.dup, 1) := dk_89 (dk_at dksX3_init_9 19 rfl rfl)
theorem dX3_init_227 : decode cX3_init 227 = .ok (.bipush 11, 2) := dk_16 11 (dk_at dksX3_init_9 20 rfl rfl)
theorem dX3_init_229 : decode cX3_init 229 = .ok (.iconst 0, 1) := dk_3 (dk_at dksX3_init_9 22 rfl rfl)
theorem dX3_init_230 : decode cX3_init 230 = .ok (.iastore, 1) := dk_79 (dk_at dksX3_init_9 23 rfl rfl)
theorem dX3_init_231 : decode cX3_init 231 = .ok (.dup, 1) := dk_89 (dk_at dksX3_init_10 0 rfl rfl)
theorem dX3_init_232 : decode cX3_init 232 = .ok (.bipush 12, 2) := dk_16 12 (dk_at dksX3_init_10 1 rfl rfl)
theorem dX3_init_234 : decode cX3_init 234 = .ok (.iconst 0, 1) := dk_3 (dk_at dksX3_init_10 3 rfl rfl)
theorem dX3_init_235 : decode cX3_init 235 = .ok (.iastore, 1) := dk_79 (dk_at dksX3_init_10 4 rfl rfl)
theorem dX3_init_236 : decode cX3_init 236 = .ok (.dup, 1) := dk_89 (dk_at dksX3_init_10 5 rfl rfl)
theorem dX3_init_237 : decode cX3_init 237 = .ok (.bipush 13, 2) := dk_16 13 (dk_at dksX3_init_10 6 rfl rfl)
theorem dX3_init_239 : decode cX3_init 239 = .ok (.iconst 0, 1) := dk_3 (dk_at dksX3_init_10 8 rfl rfl)
theorem dX3_init_240 : decode cX3_init 240 = .ok (.iastore, 1) := dk_79 (dk_at dksX3_init_10 9 rfl rfl)
theorem dX3_init_241 : decode cX3_init 241 = .ok (.dup, 1) := dk_89 (dk_at dksX3_init_10 10 rfl rfl)
theorem dX3_init_242 : decode cX3_init 242 = .ok (.bipush 14, 2) := dk_16 14 (dk_at dksX3_init_10 11 rfl rfl)
theorem dX3_init_244 : decode cX3_init 244 = .ok (.iconst 0, 1) := dk_3 (dk_at dksX3_init_10 13 rfl rfl)
theorem dX3_init_245 : decode cX3_init 245 = .ok (.iastore, 1) := dk_79 (dk_at dksX3_init_10 14 rfl rfl)
theorem dX3_init_246 : decode cX3_init 246 = .ok (.dup, 1) := dk_89 (dk_at dksX3_init_10 15 rfl rfl)
theorem dX3_init_247 : decode cX3_init 247 = .ok (.bipush 15, 2) := dk_16 15 (dk_at dksX3_init_10 16 rfl rfl)
theorem dX3_init_249 : decode cX3_init 249 = .ok (.iconst 0, 1) := dk_3 (dk_at dksX3_init_10 18 rfl rfl)
theorem dX3_init_250 : decode cX3_init 250 = .ok (.iastore, 1) := dk_79 (dk_at dksX3_init_10 19 rfl rfl)
theorem dX3_init_251 : decode cX3_init 251 = .ok (.dup, 1) := dk_89 (dk_at dksX3_init_10 20 rfl rfl)
theorem dX3_init_252 : decode cX3_init 252 = .ok (.bipush 16, 2) := dk_16 16 (dk_at dksX3_init_10 21 rfl rfl)
theorem dX3_init_254 : decode cX3_init 254 = .ok (.iconst 0, 1) := dk_3 (dk_at dksX3_init_10 23 rfl rfl)
theorem dX3_init_255 : decode cX3_init 255 = .ok (.iastore, 1) := dk_79 (dk_at dksX3_init_11 0 rfl rfl)
theorem dX3_init_256 : decode cX3_init 256 = .ok (.dup, 1) := dk_89 (dk_at dksX3_init_11 1 rfl rfl)
theorem dX3_init_257 : decode cX3_init 257 = .ok (.bipush 17, 2) := dk_16 17 (dk_at dksX3_init_11 2 rfl rfl)
theorem dX3_init_259 : decode cX3_init 259 = .ok (.iconst 0, 1) := dk_3 (dk_at dksX3_init_11 4 rfl rfl)
theorem dX3_init_260 : decode cX3_init 260 = .ok (.iastore, 1) := dk_79 (dk_at dksX3_init_11 5 rfl rfl)
theorem dX3_init_261 : decode cX3_init 261 = .ok (.dup, 1) := dk_89 (dk_at dksX3_init_11 6 rfl rfl)
theorem dX3_init_262 : decode cX3_init 262 = .ok (.bipush 18, 2) := dk_16 18 (dk_at dksX3_init_11 7 rfl rfl)
theorem dX3_init_264 : decode cX3_init 264 = .ok (.iconst 0, 1) := dk_3 (dk_at dksX3_init_11 9 rfl rfl)
theorem dX3_init_265 : decode cX3_init 265 = .ok (.iastore, 1) := dk_79 (dk_at dksX3_init_11 10 rfl rfl)
theorem dX3_init_266 : decode cX3_init 266 = .ok (.putfield 78, 3) := dk_181 0 78 (dk_at dksX3_init_11 11 rfl rfl)
theorem dX3_init_269 : decode cX3_init 269 = .ok (.aload_n 0, 1) := dk_42 (dk_at dksX3_init_11 14 rfl rfl)
theorem dX3_init_270 : decode cX3_init 270 = .ok (.bipush 19, 2) := dk_16 19 (dk_at dksX3_init_11 15 rfl rfl)
theorem dX3_init_272 : decode cX3_init 272 = .ok (.newarray .int, 2) := dk_188_10 (dk_at dksX3_init_11 17 rfl rfl)
theorem dX3_init_274 : decode cX3_init 274 = .ok (.putfield 81, 3) := dk_181 0 81 (dk_at dksX3_init_11 19 rfl rfl)
theorem dX3_init_277 : decode cX3_init 277 = .ok (.aload_n 0, 1) := dk_42 (dk_at dksX3_init_11 22 rfl rfl)
theorem dX3_init_278 : decode cX3_init 278 = .ok (.bipush 80, 2) := dk_16 80 (dk_at dksX3_init_12 0 rfl rfl)
theorem dX3_init_280 : decode cX3_init 280 = .ok (.newarray .int, 2) := dk_188_10 (dk_at dksX3_init_12 2 rfl rfl)
theorem dX3_init_282 : decode cX3_init 282 = .ok (.putfield 84, 3) := dk_181 0 84 (dk_at dksX3_init_12 4 rfl rfl)
theorem dX3_init_285 : decode cX3_init 285 = .ok (.aload_n 0, 1) := dk_42 (dk_at dksX3_init_12 7 rfl rfl)
theorem dX3_init_286 : decode cX3_init 286 = .ok (.bipush 100, 2) := dk_16 100 (dk_at dksX3_init_12 8 rfl rfl)
theorem dX3_init_288 : decode cX3_init 288 = .ok (.newarray .int, 2) := dk_188_10 (dk_at dksX3_init_12 10 rfl rfl)
theorem dX3_init_290 : decode cX3_init 290 = .ok (.putfield 87, 3) := dk_181 0 87 (dk_at dksX3_init_12 12 rfl rfl)
theorem dX3_init_293 : decode cX3_init 293 = .ok (.aload_n 0, 1) := dk_42 (dk_at dksX3_init_12 15 rfl rfl)
theorem dX3_init_294 : decode cX3_init 294 = .ok (.bipush 7, 2) := dk_16 7 (dk_at dksX3_init_12 16 rfl rfl)
theorem dX3_init_296 : decode cX3_init 296 = .ok (.newarray .int, 2) := dk_188_10 (dk_at dksX3_init_12 18 rfl rfl)
theorem dX3_init_298 : decode cX3_init 298 = .ok (.putfield 90, 3) := dk_181 0 90 (dk_at dksX3_init_12 20 rfl rfl)
theorem dX3_init_301 : decode cX3_init 301 = .ok (.aload_n 0, 1) := dk_42 (dk_at dksX3_init_12 23 rfl rfl)
theorem dX3_init_302 : decode cX3_init 302 = .ok (.sipush 950, 3) := dk_17 3 182 (dk_at dksX3_init_13 0 rfl rfl)
theorem dX3_init_305 : decode cX3_init 305 = .ok (.newarray .int, 2) := dk_188_10 (dk_at dksX3_init_13 3 rfl rfl)
theorem dX3_init_307 : decode cX3_init 307 = .ok (.putfield 93, 3) := dk_181 0 93 (dk_at dksX3_init_13 5 rfl rfl)
theorem dX3_init_310 : decode cX3_init 310 = .ok (.aload_n 0, 1) := dk_42 (dk_at dksX3_init_13 8 rfl rfl)
theorem dX3_init_311 : decode cX3_init 311 = .ok (.bipush 40, 2) := dk_16 40 (dk_at dksX3_init_13 9 rfl rfl)
theorem dX3_init_313 : decode cX3_init 313 = .ok (.newarray .int, 2) := dk_188_10 (dk_at dksX3_init_13 11 rfl rfl)
theorem dX3_init_315 : decode cX3_init 315 = .ok (.putfield 96, 3) := dk_181 0 96 (dk_at dksX3_init_13 13 rfl rfl)
theorem dX3_init_318 : decode cX3_init 318 = .ok (.aload_n 0, 1) := dk_42 (dk_at dksX3_init_13 16 rfl rfl)
theorem dX3_init_319 : decode cX3_init 319 = .ok (.bipush 40, 2) := dk_16 40 (dk_at dksX3_init_13 17 rfl rfl)
theorem dX3_init_321 : decode cX3_init 321 = .ok (.newarray .int, 2) := dk_188_10 (dk_at dksX3_init_13 19 rfl rfl)
theorem dX3_init_323 : decode cX3_init 323 = .ok (.putfield 99, 3) := dk_181 0 99 (dk_at dksX3_init_13 21 rfl rfl)
theorem dX3_init_326 : decode cX3_init 326 = .ok (.aload_n 0, 1) := dk_42 (dk_at dksX3_init_14 0 rfl rfl)
theorem dX3_init_327 : decode cX3_init 327 = .ok (.bipush 10, 2) := dk_16 10 (dk_at dksX3_init_14 1 rfl rfl)
theorem dX3_init_329 : decode cX3_init 329 = .ok (.newarray .int, 2) := dk_188_10 (dk_at dksX3_init_14 3 rfl rfl)
theorem dX3_init_331 : decode cX3_init 331 = .ok (.putfield 102, 3) := dk_181 0 102 (dk_at dksX3_init_14 5 rfl rfl)
theorem dX3_init_334 : decode cX3_init 334 = .ok (.aload_n 0, 1) := dk_42 (dk_at dksX3_init_14 8 rfl rfl)
theorem dX3_init_335 : decode cX3_init 335 = .ok (.iconst 5, 1) := dk_8 (dk_at dksX3_init_14 9 rfl rfl)
theorem dX3_init_336 : decode cX3_init 336 = .ok (.newarray .int, 2) := dk_188_10 (dk_at dksX3_init_14 10 rfl rfl)
theorem dX3_init_338 : decode cX3_init 338 = .ok (.putfield 105, 3) := dk_181 0 105 (dk_at dksX3_init_14 12 rfl rfl)
theorem dX3_init_341 : decode cX3_init 341 = .ok (.aload_n 0, 1) := dk_42 (dk_at dksX3_init_14 15 rfl rfl)
theorem dX3_init_342 : decode cX3_init 342 = .ok (.iconst 5, 1) := dk_8 (dk_at dksX3_init_14 16 rfl rfl)
theorem dX3_init_343 : decode cX3_init 343 = .ok (.newarray .int, 2) := dk_188_10 (dk_at dksX3_init_14 17 rfl rfl)
theorem dX3_init_345 : decode cX3_init 345 = .ok (.putfield 108, 3) := dk_181 0 108 (dk_at dksX3_init_14 19 rfl rfl)
theorem dX3_init_348 : decode cX3_init 348 = .ok (.aload_n 0, 1) := dk_42 (dk_at dksX3_init_14 22 rfl rfl)
theorem dX3_init_349 : decode cX3_init 349 = .ok (.iconst 5, 1) := dk_8 (dk_at dksX3_init_14 23 rfl rfl)
theorem dX3_init_350 : decode cX3_init 350 = .ok (.newarray .int, 2) := dk_188_10 (dk_at dksX3_init_15 0 rfl rfl)
theorem dX3_init_352 : decode cX3_init 352 = .ok (.putfield 111, 3) := dk_181 0 111 (dk_at dksX3_init_15 2 rfl rfl)
theorem dX3_init_355 : decode cX3_init 355 = .ok (.aload_n 0, 1) := dk_42 (dk_at dksX3_init_15 5 rfl rfl)
theorem dX3_init_356 : decode cX3_init 356 = .ok (.bipush 10, 2) := dk_16 10 (dk_at dksX3_init_15 6 rfl rfl)
theorem dX3_init_358 : decode cX3_init 358 = .ok (.newarray .int, 2) := dk_188_10 (dk_at dksX3_init_15 8 rfl rfl)
theorem dX3_init_360 : decode cX3_init 360 = .ok (.putfield 114, 3) := dk_181 0 114 (dk_at dksX3_init_15 10 rfl rfl)
theorem dX3_init_363 : decode cX3_init 363 = .ok (.aload_n 0, 1) := dk_42 (dk_at dksX3_init_15 13 rfl rfl)
theorem dX3_init_364 : decode cX3_init 364 = .ok (.bipush 10, 2) := dk_16 10 (dk_at dksX3_init_15 14 rfl rfl)
theorem dX3_init_366 : decode cX3_init 366 = .ok (.newarray .int, 2) := dk_188_10 (dk_at dksX3_init_15 16 rfl rfl)
theorem dX3_init_368 : decode cX3_init 368 = .ok (.putfield 117, 3) := dk_181 0 117 (dk_at dksX3_init_15 18 rfl rfl)
theorem dX3_init_371 : decode cX3_init 371 = .ok (.aload_n 0, 1) := dk_42 (dk_at dksX3_init_15 21 rfl rfl)
theorem dX3_init_372 : decode cX3_init 372 = .ok (.sipush 400, 3) := dk_17 1 144 (dk_at dksX3_init_16 0 rfl rfl)
theorem dX3_init_375 : decode cX3_init 375 = .ok (.newarray .int, 2) := dk_188_10 (dk_at dksX3_init_16 3 rfl rfl)
theorem dX3_init_377 : decode cX3_init 377 = .ok (.putfield 120, 3) := dk_181 0 120 (dk_at dksX3_init_16 5 rfl rfl)
theorem dX3_init_380 : decode cX3_init 380 = .ok (.aload_n 0, 1) := dk_42 (dk_at dksX3_init_16 8 rfl rfl)
theorem dX3_init_381 : decode cX3_init 381 = .ok (.bipush 10, 2) := dk_16 10 (dk_at dksX3_init_16 9 rfl rfl)
theorem dX3_init_383 : decode cX3_init 383 = .ok (.newarray .int, 2) := dk_188_10 (dk_at dksX3_init_16 11 rfl rfl)
theorem dX3_init_385 : decode cX3_init 385 = .ok (.putfield 123, 3) := dk_181 0 123 (dk_at dksX3_init_16 13 rfl rfl)
theorem dX3_init_388 : decode cX3_init 388 = .ok (.aload_n 0, 1) := dk_42 (dk_at dksX3_init_16 16 rfl rfl)
theorem dX3_init_389 : decode cX3_init 389 = .ok (.bipush 10, 2) := dk_16 10 (dk_at dksX3_init_16 17 rfl rfl)
theorem dX3_init_391 : decode cX3_init 391 = .ok (.newarray .int, 2) := dk_188_10 (dk_at dksX3_init_16 19 rfl rfl)
theorem dX3_init_393 : decode cX3_init 393 = .ok (.putfield 126, 3) := dk_181 0 126 (dk_at dksX3_init_16 21 rfl rfl)
theorem dX3_init_396 : decode cX3_init 396 = .ok (.aload_n 0, 1) := dk_42 (dk_at dksX3_init_17 0 rfl rfl)
theorem dX3_init_397 : decode cX3_init 397 = .ok (.bipush 40, 2) := dk_16 40 (dk_at dksX3_init_17 1 rfl rfl)
theorem dX3_init_399 : decode cX3_init 399 = .ok (.newarray .int, 2) := dk_188_10 (dk_at dksX3_init_17 3 rfl rfl)
theorem dX3_init_401 : decode cX3_init 401 = .ok (.putfield 129, 3) := dk_181 0 129 (dk_at dksX3_init_17 5 rfl rfl)
theorem dX3_init_404 : decode cX3_init 404 = .ok (.aload_n 0, 1) := dk_42 (dk_at dksX3_init_17 8 rfl rfl)
theorem dX3_init_405 : decode cX3_init 405 = .ok (.bipush 24, 2) := dk_16 24 (dk_at dksX3_init_17 9 rfl rfl)
theorem dX3_init_407 : decode cX3_init 407 = .ok (.newarray .int, 2) := dk_188_10 (dk_at dksX3_init_17 11 rfl rfl)
theorem dX3_init_409 : decode cX3_init 409 = .ok (.putfield 132, 3) := dk_181 0 132 (dk_at dksX3_init_17 13 rfl rfl)
theorem dX3_init_412 : decode cX3_init 412 = .ok (.aload_n 0, 1) := dk_42 (dk_at dksX3_init_17 16 rfl rfl)
theorem dX3_init_413 : decode cX3_init 413 = .ok (.bipush 10, 2) := dk_16 10 (dk_at dksX3_init_17 17 rfl rfl)
theorem dX3_init_415 : decode cX3_init 415 = .ok (.newarray .int, 2) := dk_188_10 (dk_at dksX3_init_17 19 rfl rfl)
theorem dX3_init_417 : decode cX3_init 417 = .ok (.putfield 135, 3) := dk_181 0 135 (dk_at dksX3_init_17 21 rfl rfl)
theorem dX3_init_420 : decode cX3_init 420 = .ok (.aload_n 0, 1) := dk_42 (dk_at dksX3_init_18 0 rfl rfl)
theorem dX3_init_421 : decode cX3_init 421 = .ok (.bipush 19, 2) := dk_16 19 (dk_at dksX3_init_18 1 rfl rfl)
theorem dX3_init_423 : decode cX3_init 423 = .ok (.newarray .int, 2) := dk_188_10 (dk_at dksX3_init_18 3 rfl rfl)
theorem dX3_init_425 : decode cX3_init 425 = .ok (.putfield 138, 3) := dk_181 0 138 (dk_at dksX3_init_18 5 rfl rfl)
theorem dX3_init_428 : decode cX3_init 428 = .ok (.aload_n 0, 1) := dk_42 (dk_at dksX3_init_18 8 rfl rfl)
theorem dX3_init_429 : decode cX3_init 429 = .ok (.bipush 80, 2) := dk_16 80 (dk_at dksX3_init_18 9 rfl rfl)
theorem dX3_init_431 : decode cX3_init 431 = .ok (.newarray .int, 2) := dk_188_10 (dk_at dksX3_init_18 11 rfl rfl)
theorem dX3_init_433 : decode cX3_init 433 = .ok (.putfield 141, 3) := dk_181 0 141 (dk_at dksX3_init_18 13 rfl rfl)
theorem dX3_init_436 : decode cX3_init 436 = .ok (.aload_n 0, 1) := dk_42 (dk_at dksX3_init_18 16 rfl rfl)
theorem dX3_init_437 : decode cX3_init 437 = .ok (.bipush 24, 2) := dk_16 24 (dk_at dksX3_init_18 17 rfl rfl)
theorem dX3_init_439 : decode cX3_init 439 = .ok (.newarray .int, 2) := dk_188_10 (dk_at dksX3_init_18 19 rfl rfl)
theorem dX3_init_441 : decode cX3_init 441 = .ok (.putfield 144, 3) := dk_181 0 144 (dk_at dksX3_init_18 21 rfl rfl)
theorem dX3_init_444 : decode cX3_init 444 = .ok (.return_, 1) := dk_177 (dk_at dksX3_init_19 0 rfl rfl)
abbrev cX3_thrown : ByteArray := prog_14_method_2_code
def yX3_thrown : MethodName := ⟨RX3, "thrown", "()I"⟩
theorem dX3_thrown_0 : decode cX3_thrown 0 = .ok (.aload_n 0, 1) := by decide +kernel
theorem dX3_thrown_1 : decode cX3_thrown 1 = .ok (.getfield 147, 3) := by decide +kernel
theorem dX3_thrown_4 : decode cX3_thrown 4 = .ok (.ireturn, 1) := by decide +kernel
abbrev cX3_feed : ByteArray := prog_14_method_8_code
def yX3_feed : MethodName := ⟨RX3, "feed", "(IIIII)I"⟩
def dkwX3_feed_2 : List UInt8 := [182, 0, 153, 42, 180, 0, 150, 172]
abbrev dktX3_feed_2 : List UInt8 := dkwX3_feed_2 ++ []
def dkwX3_feed_1 : List UInt8 := [182, 0, 153, 42, 28, 182, 0, 153, 42, 29, 182, 0, 153, 42, 21, 4, 182, 0, 153, 42, 21, 5]
abbrev dktX3_feed_1 : List UInt8 := dkwX3_feed_1 ++ dktX3_feed_2
def dkwX3_feed_0 : List UInt8 := [42, 3, 181, 0, 147, 42, 180, 0, 150, 16, 20, 96, 17, 2, 188, 164, 0, 5, 2, 172, 42, 27]
abbrev dktX3_feed_0 : List UInt8 := dkwX3_feed_0 ++ dktX3_feed_1
theorem dksX3_feed_0 : cX3_feed.data.toList.drop 0 = dktX3_feed_0 := by decide +kernel
theorem dksX3_feed_1 : cX3_feed.data.toList.drop 22 = dktX3_feed_1 := dk_seg dksX3_feed_0 22 rfl rfl
theorem dksX3_feed_2 : cX3_feed.data.toList.drop 44 = dktX3_feed_2 := dk_seg dksX3_feed_1 22 rfl rfl
theorem dX3_feed_0 : decode cX3_feed 0 = .ok (.aload_n 0, 1) := dk_42 (dk_at dksX3_feed_0 0 rfl rfl)
theorem dX3_feed_1 : decode cX3_feed 1 = .ok (.iconst 0, 1) := dk_3 (dk_at dksX3_feed_0 1 rfl rfl)
theorem dX3_feed_2 : decode cX3_feed 2 = .ok (.putfield 147, 3) := dk_181 0 147 (dk_at dksX3_feed_0 2 rfl rfl)
theorem dX3_feed_5 : decode cX3_feed 5 = .ok (.aload_n 0, 1) := dk_42 (dk_at dksX3_feed_0 5 rfl rfl)
theorem dX3_feed_6 : decode cX3_feed 6 = .ok (.getfield 150, 3) := dk_180 0 150 (dk_at dksX3_feed_0 6 rfl rfl)
theorem dX3_feed_9 : decode cX3_feed 9 = .ok (.bipush 20, 2) := dk_16 20 (dk_at dksX3_feed_0 9 rfl rfl)
theorem dX3_feed_11 : decode cX3_feed 11 = .ok (.iadd, 1) := dk_96 (dk_at dksX3_feed_0 11 rfl rfl)
theorem dX3_feed_12 : decode cX3_feed 12 = .ok (.sipush 700, 3) := dk_17 2 188 (dk_at dksX3_feed_0 12 rfl rfl)
theorem dX3_feed_15 : decode cX3_feed 15 = .ok (.if_icmp .le 5, 3) := dk_164 0 5 (dk_at dksX3_feed_0 15 rfl rfl)
theorem dX3_feed_18 : decode cX3_feed 18 = .ok (.iconst (-1), 1) := dk_2 (dk_at dksX3_feed_0 18 rfl rfl)
theorem dX3_feed_19 : decode cX3_feed 19 = .ok (.ireturn, 1) := dk_172 (dk_at dksX3_feed_0 19 rfl rfl)
theorem dX3_feed_20 : decode cX3_feed 20 = .ok (.aload_n 0, 1) := dk_42 (dk_at dksX3_feed_0 20 rfl rfl)
theorem dX3_feed_21 : decode cX3_feed 21 = .ok (.iload_n 1, 1) := dk_27 (dk_at dksX3_feed_0 21 rfl rfl)
theorem dX3_feed_22 : decode cX3_feed 22 = .ok (.invokevirtual 153, 3) := dk_182 0 153 (dk_at dksX3_feed_1 0 rfl rfl)
theorem dX3_feed_25 : decode cX3_feed 25 = .ok (.aload_n 0, 1) := dk_42 (dk_at dksX3_feed_1 3 rfl rfl)
theorem dX3_feed_26 : decode cX3_feed 26 = .ok (.iload_n 2, 1) := dk_28 (dk_at dksX3_feed_1 4 rfl rfl)
theorem dX3_feed_27 : decode cX3_feed 27 = .ok (.invokevirtual 153, 3) := dk_182 0 153 (dk_at dksX3_feed_1 5 rfl rfl)
theorem dX3_feed_30 : decode cX3_feed 30 = .ok (.aload_n 0, 1) := dk_42 (dk_at dksX3_feed_1 8 rfl rfl)
theorem dX3_feed_31 : decode cX3_feed 31 = .ok (.iload_n 3, 1) := dk_29 (dk_at dksX3_feed_1 9 rfl rfl)
theorem dX3_feed_32 : decode cX3_feed 32 = .ok (.invokevirtual 153, 3) := dk_182 0 153 (dk_at dksX3_feed_1 10 rfl rfl)
theorem dX3_feed_35 : decode cX3_feed 35 = .ok (.aload_n 0, 1) := dk_42 (dk_at dksX3_feed_1 13 rfl rfl)
theorem dX3_feed_36 : decode cX3_feed 36 = .ok (.iload 4, 2) := dk_21 4 (dk_at dksX3_feed_1 14 rfl rfl)
theorem dX3_feed_38 : decode cX3_feed 38 = .ok (.invokevirtual 153, 3) := dk_182 0 153 (dk_at dksX3_feed_1 16 rfl rfl)
theorem dX3_feed_41 : decode cX3_feed 41 = .ok (.aload_n 0, 1) := dk_42 (dk_at dksX3_feed_1 19 rfl rfl)
theorem dX3_feed_42 : decode cX3_feed 42 = .ok (.iload 5, 2) := dk_21 5 (dk_at dksX3_feed_1 20 rfl rfl)
theorem dX3_feed_44 : decode cX3_feed 44 = .ok (.invokevirtual 153, 3) := dk_182 0 153 (dk_at dksX3_feed_2 0 rfl rfl)
theorem dX3_feed_47 : decode cX3_feed 47 = .ok (.aload_n 0, 1) := dk_42 (dk_at dksX3_feed_2 3 rfl rfl)
theorem dX3_feed_48 : decode cX3_feed 48 = .ok (.getfield 150, 3) := dk_180 0 150 (dk_at dksX3_feed_2 4 rfl rfl)
theorem dX3_feed_51 : decode cX3_feed 51 = .ok (.ireturn, 1) := dk_172 (dk_at dksX3_feed_2 7 rfl rfl)
abbrev cX3_lays : ByteArray := prog_14_method_9_code
def yX3_lays : MethodName := ⟨RX3, "lays", "(I)V"⟩
def dkwX3_lays_1 : List UInt8 := [89, 180, 0, 150, 4, 96, 181, 0, 150, 132, 2, 248, 167, 255, 223, 177]
abbrev dktX3_lays_1 : List UInt8 := dkwX3_lays_1 ++ []
def dkwX3_lays_0 : List UInt8 := [16, 24, 61, 28, 155, 0, 35, 42, 180, 0, 35, 42, 180, 0, 150, 27, 28, 122, 17, 0, 255, 126, 79, 42]
abbrev dktX3_lays_0 : List UInt8 := dkwX3_lays_0 ++ dktX3_lays_1
theorem dksX3_lays_0 : cX3_lays.data.toList.drop 0 = dktX3_lays_0 := by decide +kernel
theorem dksX3_lays_1 : cX3_lays.data.toList.drop 24 = dktX3_lays_1 := dk_seg dksX3_lays_0 24 rfl rfl
theorem dX3_lays_0 : decode cX3_lays 0 = .ok (.bipush 24, 2) := dk_16 24 (dk_at dksX3_lays_0 0 rfl rfl)
theorem dX3_lays_2 : decode cX3_lays 2 = .ok (.istore_n 2, 1) := dk_61 (dk_at dksX3_lays_0 2 rfl rfl)
theorem dX3_lays_3 : decode cX3_lays 3 = .ok (.iload_n 2, 1) := dk_28 (dk_at dksX3_lays_0 3 rfl rfl)
theorem dX3_lays_4 : decode cX3_lays 4 = .ok (.ifCond .lt 35, 3) := dk_155 0 35 (dk_at dksX3_lays_0 4 rfl rfl)
theorem dX3_lays_7 : decode cX3_lays 7 = .ok (.aload_n 0, 1) := dk_42 (dk_at dksX3_lays_0 7 rfl rfl)
theorem dX3_lays_8 : decode cX3_lays 8 = .ok (.getfield 35, 3) := dk_180 0 35 (dk_at dksX3_lays_0 8 rfl rfl)
theorem dX3_lays_11 : decode cX3_lays 11 = .ok (.aload_n 0, 1) := dk_42 (dk_at dksX3_lays_0 11 rfl rfl)
theorem dX3_lays_12 : decode cX3_lays 12 = .ok (.getfield 150, 3) := dk_180 0 150 (dk_at dksX3_lays_0 12 rfl rfl)
theorem dX3_lays_15 : decode cX3_lays 15 = .ok (.iload_n 1, 1) := dk_27 (dk_at dksX3_lays_0 15 rfl rfl)
theorem dX3_lays_16 : decode cX3_lays 16 = .ok (.iload_n 2, 1) := dk_28 (dk_at dksX3_lays_0 16 rfl rfl)
theorem dX3_lays_17 : decode cX3_lays 17 = .ok (.ishr, 1) := dk_122 (dk_at dksX3_lays_0 17 rfl rfl)
theorem dX3_lays_18 : decode cX3_lays 18 = .ok (.sipush 255, 3) := dk_17 0 255 (dk_at dksX3_lays_0 18 rfl rfl)
theorem dX3_lays_21 : decode cX3_lays 21 = .ok (.iand, 1) := dk_126 (dk_at dksX3_lays_0 21 rfl rfl)
theorem dX3_lays_22 : decode cX3_lays 22 = .ok (.iastore, 1) := dk_79 (dk_at dksX3_lays_0 22 rfl rfl)
theorem dX3_lays_23 : decode cX3_lays 23 = .ok (.aload_n 0, 1) := dk_42 (dk_at dksX3_lays_0 23 rfl rfl)
theorem dX3_lays_24 : decode cX3_lays 24 = .ok (.dup, 1) := dk_89 (dk_at dksX3_lays_1 0 rfl rfl)
theorem dX3_lays_25 : decode cX3_lays 25 = .ok (.getfield 150, 3) := dk_180 0 150 (dk_at dksX3_lays_1 1 rfl rfl)
theorem dX3_lays_28 : decode cX3_lays 28 = .ok (.iconst 1, 1) := dk_4 (dk_at dksX3_lays_1 4 rfl rfl)
theorem dX3_lays_29 : decode cX3_lays 29 = .ok (.iadd, 1) := dk_96 (dk_at dksX3_lays_1 5 rfl rfl)
theorem dX3_lays_30 : decode cX3_lays 30 = .ok (.putfield 150, 3) := dk_181 0 150 (dk_at dksX3_lays_1 6 rfl rfl)
theorem dX3_lays_33 : decode cX3_lays 33 = .ok (.iinc 2 (-8), 3) := dk_132 2 248 (dk_at dksX3_lays_1 9 rfl rfl)
theorem dX3_lays_36 : decode cX3_lays 36 = .ok (.goto (-33), 3) := dk_167 255 223 (dk_at dksX3_lays_1 12 rfl rfl)
theorem dX3_lays_39 : decode cX3_lays 39 = .ok (.return_, 1) := dk_177 (dk_at dksX3_lays_1 15 rfl rfl)
abbrev cX3_city : ByteArray := prog_14_method_39_code
def yX3_city : MethodName := ⟨RX3, "city", "(I)I"⟩
def dkwX3_city_18 : List UInt8 := [3, 172]
abbrev dktX3_city_18 : List UInt8 := dkwX3_city_18 ++ []
def dkwX3_city_17 : List UInt8 := [42, 182, 1, 76, 42, 3, 181, 1, 79, 42, 3, 181, 1, 82, 42, 3, 181, 1, 85, 42, 3, 181, 1, 89]
abbrev dktX3_city_17 : List UInt8 := dkwX3_city_17 ++ dktX3_city_18
def dkwX3_city_16 : List UInt8 := [162, 0, 24, 42, 180, 0, 78, 16, 14, 28, 96, 42, 180, 0, 53, 28, 46, 79, 132, 2, 1, 167, 255, 233]
abbrev dktX3_city_16 : List UInt8 := dkwX3_city_16 ++ dktX3_city_17
def dkwX3_city_15 : List UInt8 := [180, 0, 78, 7, 28, 96, 42, 180, 0, 44, 28, 46, 79, 132, 2, 1, 167, 255, 233, 3, 61, 28, 8]
abbrev dktX3_city_15 : List UInt8 := dkwX3_city_15 ++ dktX3_city_16
def dkwX3_city_14 : List UInt8 := [42, 180, 0, 78, 5, 3, 79, 42, 180, 0, 78, 6, 3, 79, 3, 61, 28, 16, 10, 162, 0, 23, 42]
abbrev dktX3_city_14 : List UInt8 := dkwX3_city_14 ++ dktX3_city_15
def dkwX3_city_13 : List UInt8 := [180, 0, 78, 3, 42, 180, 1, 69, 158, 0, 7, 3, 167, 0, 4, 2, 79, 42, 180, 0, 78, 4, 3, 79]
abbrev dktX3_city_13 : List UInt8 := dkwX3_city_13 ++ dktX3_city_14
def dkwX3_city_12 : List UInt8 := [180, 0, 65, 42, 180, 0, 29, 182, 1, 72, 42, 42, 180, 0, 68, 42, 180, 0, 32, 182, 1, 72, 42]
abbrev dktX3_city_12 : List UInt8 := dkwX3_city_12 ++ dktX3_city_13
def dkwX3_city_11 : List UInt8 := [180, 0, 59, 42, 180, 0, 23, 182, 1, 72, 42, 42, 180, 0, 62, 42, 180, 0, 26, 182, 1, 72, 42, 42]
abbrev dktX3_city_11 : List UInt8 := dkwX3_city_11 ++ dktX3_city_12
def dkwX3_city_10 : List UInt8 := [180, 0, 50, 42, 180, 0, 17, 182, 1, 72, 42, 42, 180, 0, 56, 42, 180, 0, 20, 182, 1, 72, 42, 42]
abbrev dktX3_city_10 : List UInt8 := dkwX3_city_10 ++ dktX3_city_11
def dkwX3_city_9 : List UInt8 := [167, 0, 7, 42, 180, 1, 38, 181, 0, 7, 42, 42, 180, 0, 47, 42, 180, 0, 13, 182, 1, 72, 42, 42]
abbrev dktX3_city_9 : List UInt8 := dkwX3_city_9 ++ dktX3_city_10
def dkwX3_city_8 : List UInt8 := [181, 1, 66, 42, 42, 180, 1, 41, 181, 1, 69, 42, 42, 180, 1, 38, 2, 160, 0, 9, 17, 1, 104]
abbrev dktX3_city_8 : List UInt8 := dkwX3_city_8 ++ dktX3_city_9
def dkwX3_city_7 : List UInt8 := [181, 1, 57, 42, 42, 180, 1, 13, 181, 1, 60, 42, 42, 180, 1, 23, 181, 1, 63, 42, 42, 180, 1, 26]
abbrev dktX3_city_7 : List UInt8 := dkwX3_city_7 ++ dktX3_city_8
def dkwX3_city_6 : List UInt8 := [154, 0, 18, 42, 180, 0, 41, 3, 92, 46, 4, 96, 79, 42, 180, 0, 203, 172, 42, 42, 180, 0, 216]
abbrev dktX3_city_6 : List UInt8 := dkwX3_city_6 ++ dktX3_city_7
def dkwX3_city_5 : List UInt8 := [182, 0, 206, 153, 0, 17, 42, 180, 0, 180, 153, 0, 10, 42, 182, 1, 54, 167, 255, 238, 42, 182, 0, 206]
abbrev dktX3_city_5 : List UInt8 := dkwX3_city_5 ++ dktX3_city_6
def dkwX3_city_4 : List UInt8 := [16, 100, 162, 0, 16, 42, 180, 0, 47, 28, 3, 79, 132, 2, 1, 167, 255, 240, 42, 182, 0, 210, 42]
abbrev dktX3_city_4 : List UInt8 := dkwX3_city_4 ++ dktX3_city_5
def dkwX3_city_3 : List UInt8 := [42, 3, 181, 1, 26, 42, 3, 181, 1, 41, 42, 2, 181, 1, 38, 42, 3, 181, 0, 223, 3, 61, 28]
abbrev dktX3_city_3 : List UInt8 := dkwX3_city_3 ++ dktX3_city_4
def dkwX3_city_2 : List UInt8 := [27, 181, 0, 157, 42, 3, 181, 0, 160, 42, 3, 181, 0, 216, 42, 3, 181, 1, 13, 42, 3, 181, 1, 23]
abbrev dktX3_city_2 : List UInt8 := dkwX3_city_2 ++ dktX3_city_3
def dkwX3_city_1 : List UInt8 := [182, 1, 50, 154, 0, 5, 3, 172, 42, 3, 181, 0, 150, 42, 2, 181, 0, 38, 42, 3, 181, 0, 203, 42]
abbrev dktX3_city_1 : List UInt8 := dkwX3_city_1 ++ dktX3_city_2
def dkwX3_city_0 : List UInt8 := [42, 3, 181, 0, 147, 42, 27, 155, 0, 15, 27, 42, 180, 0, 150, 163, 0, 7, 4, 167, 0, 4, 3, 4]
abbrev dktX3_city_0 : List UInt8 := dkwX3_city_0 ++ dktX3_city_1
theorem dksX3_city_0 : cX3_city.data.toList.drop 0 = dktX3_city_0 := by decide +kernel
theorem dksX3_city_1 : cX3_city.data.toList.drop 24 = dktX3_city_1 := dk_seg dksX3_city_0 24 rfl rfl
theorem dksX3_city_2 : cX3_city.data.toList.drop 48 = dktX3_city_2 := dk_seg dksX3_city_1 24 rfl rfl
theorem dksX3_city_3 : cX3_city.data.toList.drop 72 = dktX3_city_3 := dk_seg dksX3_city_2 24 rfl rfl
theorem dksX3_city_4 : cX3_city.data.toList.drop 95 = dktX3_city_4 := dk_seg dksX3_city_3 23 rfl rfl
theorem dksX3_city_5 : cX3_city.data.toList.drop 118 = dktX3_city_5 := dk_seg dksX3_city_4 23 rfl rfl
theorem dksX3_city_6 : cX3_city.data.toList.drop 142 = dktX3_city_6 := dk_seg dksX3_city_5 24 rfl rfl
theorem dksX3_city_7 : cX3_city.data.toList.drop 165 = dktX3_city_7 := dk_seg dksX3_city_6 23 rfl rfl
theorem dksX3_city_8 : cX3_city.data.toList.drop 189 = dktX3_city_8 := dk_seg dksX3_city_7 24 rfl rfl
theorem dksX3_city_9 : cX3_city.data.toList.drop 212 = dktX3_city_9 := dk_seg dksX3_city_8 23 rfl rfl
theorem dksX3_city_10 : cX3_city.data.toList.drop 236 = dktX3_city_10 := dk_seg dksX3_city_9 24 rfl rfl
theorem dksX3_city_11 : cX3_city.data.toList.drop 260 = dktX3_city_11 := dk_seg dksX3_city_10 24 rfl rfl
theorem dksX3_city_12 : cX3_city.data.toList.drop 284 = dktX3_city_12 := dk_seg dksX3_city_11 24 rfl rfl
theorem dksX3_city_13 : cX3_city.data.toList.drop 307 = dktX3_city_13 := dk_seg dksX3_city_12 23 rfl rfl
theorem dksX3_city_14 : cX3_city.data.toList.drop 331 = dktX3_city_14 := dk_seg dksX3_city_13 24 rfl rfl
theorem dksX3_city_15 : cX3_city.data.toList.drop 354 = dktX3_city_15 := dk_seg dksX3_city_14 23 rfl rfl
theorem dksX3_city_16 : cX3_city.data.toList.drop 377 = dktX3_city_16 := dk_seg dksX3_city_15 23 rfl rfl
theorem dksX3_city_17 : cX3_city.data.toList.drop 401 = dktX3_city_17 := dk_seg dksX3_city_16 24 rfl rfl
theorem dksX3_city_18 : cX3_city.data.toList.drop 425 = dktX3_city_18 := dk_seg dksX3_city_17 24 rfl rfl
theorem dX3_city_0 : decode cX3_city 0 = .ok (.aload_n 0, 1) := dk_42 (dk_at dksX3_city_0 0 rfl rfl)
theorem dX3_city_1 : decode cX3_city 1 = .ok (.iconst 0, 1) := dk_3 (dk_at dksX3_city_0 1 rfl rfl)
theorem dX3_city_2 : decode cX3_city 2 = .ok (.putfield 147, 3) := dk_181 0 147 (dk_at dksX3_city_0 2 rfl rfl)
theorem dX3_city_5 : decode cX3_city 5 = .ok (.aload_n 0, 1) := dk_42 (dk_at dksX3_city_0 5 rfl rfl)
theorem dX3_city_6 : decode cX3_city 6 = .ok (.iload_n 1, 1) := dk_27 (dk_at dksX3_city_0 6 rfl rfl)
theorem dX3_city_7 : decode cX3_city 7 = .ok (.ifCond .lt 15, 3) := dk_155 0 15 (dk_at dksX3_city_0 7 rfl rfl)
theorem dX3_city_10 : decode cX3_city 10 = .ok (.iload_n 1, 1) := dk_27 (dk_at dksX3_city_0 10 rfl rfl)
theorem dX3_city_11 : decode cX3_city 11 = .ok (.aload_n 0, 1) := dk_42 (dk_at dksX3_city_0 11 rfl rfl)
theorem dX3_city_12 : decode cX3_city 12 = .ok (.getfield 150, 3) := dk_180 0 150 (dk_at dksX3_city_0 12 rfl rfl)
theorem dX3_city_15 : decode cX3_city 15 = .ok (.if_icmp .gt 7, 3) := dk_163 0 7 (dk_at dksX3_city_0 15 rfl rfl)
theorem dX3_city_18 : decode cX3_city 18 = .ok (.iconst 1, 1) := dk_4 (dk_at dksX3_city_0 18 rfl rfl)
theorem dX3_city_19 : decode cX3_city 19 = .ok (.goto 4, 3) := dk_167 0 4 (dk_at dksX3_city_0 19 rfl rfl)
theorem dX3_city_22 : decode cX3_city 22 = .ok (.iconst 0, 1) := dk_3 (dk_at dksX3_city_0 22 rfl rfl)
theorem dX3_city_23 : decode cX3_city 23 = .ok (.iconst 1, 1) := dk_4 (dk_at dksX3_city_0 23 rfl rfl)
theorem dX3_city_24 : decode cX3_city 24 = .ok (.invokevirtual 306, 3) := dk_182 1 50 (dk_at dksX3_city_1 0 rfl rfl)
theorem dX3_city_27 : decode cX3_city 27 = .ok (.ifCond .ne 5, 3) := dk_154 0 5 (dk_at dksX3_city_1 3 rfl rfl)
theorem dX3_city_30 : decode cX3_city 30 = .ok (.iconst 0, 1) := dk_3 (dk_at dksX3_city_1 6 rfl rfl)
theorem dX3_city_31 : decode cX3_city 31 = .ok (.ireturn, 1) := dk_172 (dk_at dksX3_city_1 7 rfl rfl)
theorem dX3_city_32 : decode cX3_city 32 = .ok (.aload_n 0, 1) := dk_42 (dk_at dksX3_city_1 8 rfl rfl)
theorem dX3_city_33 : decode cX3_city 33 = .ok (.iconst 0, 1) := dk_3 (dk_at dksX3_city_1 9 rfl rfl)
theorem dX3_city_34 : decode cX3_city 34 = .ok (.putfield 150, 3) := dk_181 0 150 (dk_at dksX3_city_1 10 rfl rfl)
theorem dX3_city_37 : decode cX3_city 37 = .ok (.aload_n 0, 1) := dk_42 (dk_at dksX3_city_1 13 rfl rfl)
theorem dX3_city_38 : decode cX3_city 38 = .ok (.iconst (-1), 1) := dk_2 (dk_at dksX3_city_1 14 rfl rfl)
theorem dX3_city_39 : decode cX3_city 39 = .ok (.putfield 38, 3) := dk_181 0 38 (dk_at dksX3_city_1 15 rfl rfl)
theorem dX3_city_42 : decode cX3_city 42 = .ok (.aload_n 0, 1) := dk_42 (dk_at dksX3_city_1 18 rfl rfl)
theorem dX3_city_43 : decode cX3_city 43 = .ok (.iconst 0, 1) := dk_3 (dk_at dksX3_city_1 19 rfl rfl)
theorem dX3_city_44 : decode cX3_city 44 = .ok (.putfield 203, 3) := dk_181 0 203 (dk_at dksX3_city_1 20 rfl rfl)
theorem dX3_city_47 : decode cX3_city 47 = .ok (.aload_n 0, 1) := dk_42 (dk_at dksX3_city_1 23 rfl rfl)
theorem dX3_city_48 : decode cX3_city 48 = .ok (.iload_n 1, 1) := dk_27 (dk_at dksX3_city_2 0 rfl rfl)
theorem dX3_city_49 : decode cX3_city 49 = .ok (.putfield 157, 3) := dk_181 0 157 (dk_at dksX3_city_2 1 rfl rfl)
theorem dX3_city_52 : decode cX3_city 52 = .ok (.aload_n 0, 1) := dk_42 (dk_at dksX3_city_2 4 rfl rfl)
theorem dX3_city_53 : decode cX3_city 53 = .ok (.iconst 0, 1) := dk_3 (dk_at dksX3_city_2 5 rfl rfl)
theorem dX3_city_54 : decode cX3_city 54 = .ok (.putfield 160, 3) := dk_181 0 160 (dk_at dksX3_city_2 6 rfl rfl)
theorem dX3_city_57 : decode cX3_city 57 = .ok (.aload_n 0, 1) := dk_42 (dk_at dksX3_city_2 9 rfl rfl)
theorem dX3_city_58 : decode cX3_city 58 = .ok (.iconst 0, 1) := dk_3 (dk_at dksX3_city_2 10 rfl rfl)
theorem dX3_city_59 : decode cX3_city 59 = .ok (.putfield 216, 3) := dk_181 0 216 (dk_at dksX3_city_2 11 rfl rfl)
theorem dX3_city_62 : decode cX3_city 62 = .ok (.aload_n 0, 1) := dk_42 (dk_at dksX3_city_2 14 rfl rfl)
theorem dX3_city_63 : decode cX3_city 63 = .ok (.iconst 0, 1) := dk_3 (dk_at dksX3_city_2 15 rfl rfl)
theorem dX3_city_64 : decode cX3_city 64 = .ok (.putfield 269, 3) := dk_181 1 13 (dk_at dksX3_city_2 16 rfl rfl)
theorem dX3_city_67 : decode cX3_city 67 = .ok (.aload_n 0, 1) := dk_42 (dk_at dksX3_city_2 19 rfl rfl)
theorem dX3_city_68 : decode cX3_city 68 = .ok (.iconst 0, 1) := dk_3 (dk_at dksX3_city_2 20 rfl rfl)
theorem dX3_city_69 : decode cX3_city 69 = .ok (.putfield 279, 3) := dk_181 1 23 (dk_at dksX3_city_2 21 rfl rfl)
theorem dX3_city_72 : decode cX3_city 72 = .ok (.aload_n 0, 1) := dk_42 (dk_at dksX3_city_3 0 rfl rfl)
theorem dX3_city_73 : decode cX3_city 73 = .ok (.iconst 0, 1) := dk_3 (dk_at dksX3_city_3 1 rfl rfl)
theorem dX3_city_74 : decode cX3_city 74 = .ok (.putfield 282, 3) := dk_181 1 26 (dk_at dksX3_city_3 2 rfl rfl)
theorem dX3_city_77 : decode cX3_city 77 = .ok (.aload_n 0, 1) := dk_42 (dk_at dksX3_city_3 5 rfl rfl)
theorem dX3_city_78 : decode cX3_city 78 = .ok (.iconst 0, 1) := dk_3 (dk_at dksX3_city_3 6 rfl rfl)
theorem dX3_city_79 : decode cX3_city 79 = .ok (.putfield 297, 3) := dk_181 1 41 (dk_at dksX3_city_3 7 rfl rfl)
theorem dX3_city_82 : decode cX3_city 82 = .ok (.aload_n 0, 1) := dk_42 (dk_at dksX3_city_3 10 rfl rfl)
theorem dX3_city_83 : decode cX3_city 83 = .ok (.iconst (-1), 1) := dk_2 (dk_at dksX3_city_3 11 rfl rfl)
theorem dX3_city_84 : decode cX3_city 84 = .ok (.putfield 294, 3) := dk_181 1 38 (dk_at dksX3_city_3 12 rfl rfl)
theorem dX3_city_87 : decode cX3_city 87 = .ok (.aload_n 0, 1) := dk_42 (dk_at dksX3_city_3 15 rfl rfl)
theorem dX3_city_88 : decode cX3_city 88 = .ok (.iconst 0, 1) := dk_3 (dk_at dksX3_city_3 16 rfl rfl)
theorem dX3_city_89 : decode cX3_city 89 = .ok (.putfield 223, 3) := dk_181 0 223 (dk_at dksX3_city_3 17 rfl rfl)
theorem dX3_city_92 : decode cX3_city 92 = .ok (.iconst 0, 1) := dk_3 (dk_at dksX3_city_3 20 rfl rfl)
theorem dX3_city_93 : decode cX3_city 93 = .ok (.istore_n 2, 1) := dk_61 (dk_at dksX3_city_3 21 rfl rfl)
theorem dX3_city_94 : decode cX3_city 94 = .ok (.iload_n 2, 1) := dk_28 (dk_at dksX3_city_3 22 rfl rfl)
theorem dX3_city_95 : decode cX3_city 95 = .ok (.bipush 100, 2) := dk_16 100 (dk_at dksX3_city_4 0 rfl rfl)
theorem dX3_city_97 : decode cX3_city 97 = .ok (.if_icmp .ge 16, 3) := dk_162 0 16 (dk_at dksX3_city_4 2 rfl rfl)
theorem dX3_city_100 : decode cX3_city 100 = .ok (.aload_n 0, 1) := dk_42 (dk_at dksX3_city_4 5 rfl rfl)
theorem dX3_city_101 : decode cX3_city 101 = .ok (.getfield 47, 3) := dk_180 0 47 (dk_at dksX3_city_4 6 rfl rfl)
theorem dX3_city_104 : decode cX3_city 104 = .ok (.iload_n 2, 1) := dk_28 (dk_at dksX3_city_4 9 rfl rfl)
theorem dX3_city_105 : decode cX3_city 105 = .ok (.iconst 0, 1) := dk_3 (dk_at dksX3_city_4 10 rfl rfl)
theorem dX3_city_106 : decode cX3_city 106 = .ok (.iastore, 1) := dk_79 (dk_at dksX3_city_4 11 rfl rfl)
theorem dX3_city_107 : decode cX3_city 107 = .ok (.iinc 2 1, 3) := dk_132 2 1 (dk_at dksX3_city_4 12 rfl rfl)
theorem dX3_city_110 : decode cX3_city 110 = .ok (.goto (-16), 3) := dk_167 255 240 (dk_at dksX3_city_4 15 rfl rfl)
theorem dX3_city_113 : decode cX3_city 113 = .ok (.aload_n 0, 1) := dk_42 (dk_at dksX3_city_4 18 rfl rfl)
theorem dX3_city_114 : decode cX3_city 114 = .ok (.invokevirtual 210, 3) := dk_182 0 210 (dk_at dksX3_city_4 19 rfl rfl)
theorem dX3_city_117 : decode cX3_city 117 = .ok (.aload_n 0, 1) := dk_42 (dk_at dksX3_city_4 22 rfl rfl)
theorem dX3_city_118 : decode cX3_city 118 = .ok (.invokevirtual 206, 3) := dk_182 0 206 (dk_at dksX3_city_5 0 rfl rfl)
theorem dX3_city_121 : decode cX3_city 121 = .ok (.ifCond .eq 17, 3) := dk_153 0 17 (dk_at dksX3_city_5 3 rfl rfl)
theorem dX3_city_124 : decode cX3_city 124 = .ok (.aload_n 0, 1) := dk_42 (dk_at dksX3_city_5 6 rfl rfl)
theorem dX3_city_125 : decode cX3_city 125 = .ok (.getfield 180, 3) := dk_180 0 180 (dk_at dksX3_city_5 7 rfl rfl)
theorem dX3_city_128 : decode cX3_city 128 = .ok (.ifCond .eq 10, 3) := dk_153 0 10 (dk_at dksX3_city_5 10 rfl rfl)
theorem dX3_city_131 : decode cX3_city 131 = .ok (.aload_n 0, 1) := dk_42 (dk_at dksX3_city_5 13 rfl rfl)
theorem dX3_city_132 : decode cX3_city 132 = .ok (.invokevirtual 310, 3) := dk_182 1 54 (dk_at dksX3_city_5 14 rfl rfl)
theorem dX3_city_135 : decode cX3_city 135 = .ok (.goto (-18), 3) := dk_167 255 238 (dk_at dksX3_city_5 17 rfl rfl)
theorem dX3_city_138 : decode cX3_city 138 = .ok (.aload_n 0, 1) := dk_42 (dk_at dksX3_city_5 20 rfl rfl)
theorem dX3_city_139 : decode cX3_city 139 = .ok (.invokevirtual 206, 3) := dk_182 0 206 (dk_at dksX3_city_5 21 rfl rfl)
theorem dX3_city_142 : decode cX3_city 142 = .ok (.ifCond .ne 18, 3) := dk_154 0 18 (dk_at dksX3_city_6 0 rfl rfl)
theorem dX3_city_145 : decode cX3_city 145 = .ok (.aload_n 0, 1) := dk_42 (dk_at dksX3_city_6 3 rfl rfl)
theorem dX3_city_146 : decode cX3_city 146 = .ok (.getfield 41, 3) := dk_180 0 41 (dk_at dksX3_city_6 4 rfl rfl)
theorem dX3_city_149 : decode cX3_city 149 = .ok (.iconst 0, 1) := dk_3 (dk_at dksX3_city_6 7 rfl rfl)
theorem dX3_city_150 : decode cX3_city 150 = .ok (.dup2, 1) := dk_92 (dk_at dksX3_city_6 8 rfl rfl)
theorem dX3_city_151 : decode cX3_city 151 = .ok (.iaload, 1) := dk_46 (dk_at dksX3_city_6 9 rfl rfl)
theorem dX3_city_152 : decode cX3_city 152 = .ok (.iconst 1, 1) := dk_4 (dk_at dksX3_city_6 10 rfl rfl)
theorem dX3_city_153 : decode cX3_city 153 = .ok (.iadd, 1) := dk_96 (dk_at dksX3_city_6 11 rfl rfl)
theorem dX3_city_154 : decode cX3_city 154 = .ok (.iastore, 1) := dk_79 (dk_at dksX3_city_6 12 rfl rfl)
theorem dX3_city_155 : decode cX3_city 155 = .ok (.aload_n 0, 1) := dk_42 (dk_at dksX3_city_6 13 rfl rfl)
theorem dX3_city_156 : decode cX3_city 156 = .ok (.getfield 203, 3) := dk_180 0 203 (dk_at dksX3_city_6 14 rfl rfl)
theorem dX3_city_159 : decode cX3_city 159 = .ok (.ireturn, 1) := dk_172 (dk_at dksX3_city_6 17 rfl rfl)
theorem dX3_city_160 : decode cX3_city 160 = .ok (.aload_n 0, 1) := dk_42 (dk_at dksX3_city_6 18 rfl rfl)
theorem dX3_city_161 : decode cX3_city 161 = .ok (.aload_n 0, 1) := dk_42 (dk_at dksX3_city_6 19 rfl rfl)
theorem dX3_city_162 : decode cX3_city 162 = .ok (.getfield 216, 3) := dk_180 0 216 (dk_at dksX3_city_6 20 rfl rfl)
theorem dX3_city_165 : decode cX3_city 165 = .ok (.putfield 313, 3) := dk_181 1 57 (dk_at dksX3_city_7 0 rfl rfl)
theorem dX3_city_168 : decode cX3_city 168 = .ok (.aload_n 0, 1) := dk_42 (dk_at dksX3_city_7 3 rfl rfl)
theorem dX3_city_169 : decode cX3_city 169 = .ok (.aload_n 0, 1) := dk_42 (dk_at dksX3_city_7 4 rfl rfl)
theorem dX3_city_170 : decode cX3_city 170 = .ok (.getfield 269, 3) := dk_180 1 13 (dk_at dksX3_city_7 5 rfl rfl)
theorem dX3_city_173 : decode cX3_city 173 = .ok (.putfield 316, 3) := dk_181 1 60 (dk_at dksX3_city_7 8 rfl rfl)
theorem dX3_city_176 : decode cX3_city 176 = .ok (.aload_n 0, 1) := dk_42 (dk_at dksX3_city_7 11 rfl rfl)
theorem dX3_city_177 : decode cX3_city 177 = .ok (.aload_n 0, 1) := dk_42 (dk_at dksX3_city_7 12 rfl rfl)
theorem dX3_city_178 : decode cX3_city 178 = .ok (.getfield 279, 3) := dk_180 1 23 (dk_at dksX3_city_7 13 rfl rfl)
theorem dX3_city_181 : decode cX3_city 181 = .ok (.putfield 319, 3) := dk_181 1 63 (dk_at dksX3_city_7 16 rfl rfl)
theorem dX3_city_184 : decode cX3_city 184 = .ok (.aload_n 0, 1) := dk_42 (dk_at dksX3_city_7 19 rfl rfl)
theorem dX3_city_185 : decode cX3_city 185 = .ok (.aload_n 0, 1) := dk_42 (dk_at dksX3_city_7 20 rfl rfl)
theorem dX3_city_186 : decode cX3_city 186 = .ok (.getfield 282, 3) := dk_180 1 26 (dk_at dksX3_city_7 21 rfl rfl)
theorem dX3_city_189 : decode cX3_city 189 = .ok (.putfield 322, 3) := dk_181 1 66 (dk_at dksX3_city_8 0 rfl rfl)
theorem dX3_city_192 : decode cX3_city 192 = .ok (.aload_n 0, 1) := dk_42 (dk_at dksX3_city_8 3 rfl rfl)
theorem dX3_city_193 : decode cX3_city 193 = .ok (.aload_n 0, 1) := dk_42 (dk_at dksX3_city_8 4 rfl rfl)
theorem dX3_city_194 : decode cX3_city 194 = .ok (.getfield 297, 3) := dk_180 1 41 (dk_at dksX3_city_8 5 rfl rfl)
theorem dX3_city_197 : decode cX3_city 197 = .ok (.putfield 325, 3) := dk_181 1 69 (dk_at dksX3_city_8 8 rfl rfl)
theorem dX3_city_200 : decode cX3_city 200 = .ok (.aload_n 0, 1) := dk_42 (dk_at dksX3_city_8 11 rfl rfl)
theorem dX3_city_201 : decode cX3_city 201 = .ok (.aload_n 0, 1) := dk_42 (dk_at dksX3_city_8 12 rfl rfl)
theorem dX3_city_202 : decode cX3_city 202 = .ok (.getfield 294, 3) := dk_180 1 38 (dk_at dksX3_city_8 13 rfl rfl)
theorem dX3_city_205 : decode cX3_city 205 = .ok (.iconst (-1), 1) := dk_2 (dk_at dksX3_city_8 16 rfl rfl)
theorem dX3_city_206 : decode cX3_city 206 = .ok (.if_icmp .ne 9, 3) := dk_160 0 9 (dk_at dksX3_city_8 17 rfl rfl)
theorem dX3_city_209 : decode cX3_city 209 = .ok (.sipush 360, 3) := dk_17 1 104 (dk_at dksX3_city_8 20 rfl rfl)
theorem dX3_city_212 : decode cX3_city 212 = .ok (.goto 7, 3) := dk_167 0 7 (dk_at dksX3_city_9 0 rfl rfl)
theorem dX3_city_215 : decode cX3_city 215 = .ok (.aload_n 0, 1) := dk_42 (dk_at dksX3_city_9 3 rfl rfl)
theorem dX3_city_216 : decode cX3_city 216 = .ok (.getfield 294, 3) := dk_180 1 38 (dk_at dksX3_city_9 4 rfl rfl)
theorem dX3_city_219 : decode cX3_city 219 = .ok (.putfield 7, 3) := dk_181 0 7 (dk_at dksX3_city_9 7 rfl rfl)
theorem dX3_city_222 : decode cX3_city 222 = .ok (.aload_n 0, 1) := dk_42 (dk_at dksX3_city_9 10 rfl rfl)
theorem dX3_city_223 : decode cX3_city 223 = .ok (.aload_n 0, 1) := dk_42 (dk_at dksX3_city_9 11 rfl rfl)
theorem dX3_city_224 : decode cX3_city 224 = .ok (.getfield 47, 3) := dk_180 0 47 (dk_at dksX3_city_9 12 rfl rfl)
theorem dX3_city_227 : decode cX3_city 227 = .ok (.aload_n 0, 1) := dk_42 (dk_at dksX3_city_9 15 rfl rfl)
theorem dX3_city_228 : decode cX3_city 228 = .ok (.getfield 13, 3) := dk_180 0 13 (dk_at dksX3_city_9 16 rfl rfl)
theorem dX3_city_231 : decode cX3_city 231 = .ok (.invokevirtual 328, 3) := dk_182 1 72 (dk_at dksX3_city_9 19 rfl rfl)
theorem dX3_city_234 : decode cX3_city 234 = .ok (.aload_n 0, 1) := dk_42 (dk_at dksX3_city_9 22 rfl rfl)
theorem dX3_city_235 : decode cX3_city 235 = .ok (.aload_n 0, 1) := dk_42 (dk_at dksX3_city_9 23 rfl rfl)
theorem dX3_city_236 : decode cX3_city 236 = .ok (.getfield 50, 3) := dk_180 0 50 (dk_at dksX3_city_10 0 rfl rfl)
theorem dX3_city_239 : decode cX3_city 239 = .ok (.aload_n 0, 1) := dk_42 (dk_at dksX3_city_10 3 rfl rfl)
theorem dX3_city_240 : decode cX3_city 240 = .ok (.getfield 17, 3) := dk_180 0 17 (dk_at dksX3_city_10 4 rfl rfl)
theorem dX3_city_243 : decode cX3_city 243 = .ok (.invokevirtual 328, 3) := dk_182 1 72 (dk_at dksX3_city_10 7 rfl rfl)
theorem dX3_city_246 : decode cX3_city 246 = .ok (.aload_n 0, 1) := dk_42 (dk_at dksX3_city_10 10 rfl rfl)
theorem dX3_city_247 : decode cX3_city 247 = .ok (.aload_n 0, 1) := dk_42 (dk_at dksX3_city_10 11 rfl rfl)
theorem dX3_city_248 : decode cX3_city 248 = .ok (.getfield 56, 3) := dk_180 0 56 (dk_at dksX3_city_10 12 rfl rfl)
theorem dX3_city_251 : decode cX3_city 251 = .ok (.aload_n 0, 1) := dk_42 (dk_at dksX3_city_10 15 rfl rfl)
theorem dX3_city_252 : decode cX3_city 252 = .ok (.getfield 20, 3) := dk_180 0 20 (dk_at dksX3_city_10 16 rfl rfl)
theorem dX3_city_255 : decode cX3_city 255 = .ok (.invokevirtual 328, 3) := dk_182 1 72 (dk_at dksX3_city_10 19 rfl rfl)
theorem dX3_city_258 : decode cX3_city 258 = .ok (.aload_n 0, 1) := dk_42 (dk_at dksX3_city_10 22 rfl rfl)
theorem dX3_city_259 : decode cX3_city 259 = .ok (.aload_n 0, 1) := dk_42 (dk_at dksX3_city_10 23 rfl rfl)
theorem dX3_city_260 : decode cX3_city 260 = .ok (.getfield 59, 3) := dk_180 0 59 (dk_at dksX3_city_11 0 rfl rfl)
theorem dX3_city_263 : decode cX3_city 263 = .ok (.aload_n 0, 1) := dk_42 (dk_at dksX3_city_11 3 rfl rfl)
theorem dX3_city_264 : decode cX3_city 264 = .ok (.getfield 23, 3) := dk_180 0 23 (dk_at dksX3_city_11 4 rfl rfl)
theorem dX3_city_267 : decode cX3_city 267 = .ok (.invokevirtual 328, 3) := dk_182 1 72 (dk_at dksX3_city_11 7 rfl rfl)
theorem dX3_city_270 : decode cX3_city 270 = .ok (.aload_n 0, 1) := dk_42 (dk_at dksX3_city_11 10 rfl rfl)
theorem dX3_city_271 : decode cX3_city 271 = .ok (.aload_n 0, 1) := dk_42 (dk_at dksX3_city_11 11 rfl rfl)
theorem dX3_city_272 : decode cX3_city 272 = .ok (.getfield 62, 3) := dk_180 0 62 (dk_at dksX3_city_11 12 rfl rfl)
theorem dX3_city_275 : decode cX3_city 275 = .ok (.aload_n 0, 1) := dk_42 (dk_at dksX3_city_11 15 rfl rfl)
theorem dX3_city_276 : decode cX3_city 276 = .ok (.getfield 26, 3) := dk_180 0 26 (dk_at dksX3_city_11 16 rfl rfl)
theorem dX3_city_279 : decode cX3_city 279 = .ok (.invokevirtual 328, 3) := dk_182 1 72 (dk_at dksX3_city_11 19 rfl rfl)
theorem dX3_city_282 : decode cX3_city 282 = .ok (.aload_n 0, 1) := dk_42 (dk_at dksX3_city_11 22 rfl rfl)
theorem dX3_city_283 : decode cX3_city 283 = .ok (.aload_n 0, 1) := dk_42 (dk_at dksX3_city_11 23 rfl rfl)
theorem dX3_city_284 : decode cX3_city 284 = .ok (.getfield 65, 3) := dk_180 0 65 (dk_at dksX3_city_12 0 rfl rfl)
theorem dX3_city_287 : decode cX3_city 287 = .ok (.aload_n 0, 1) := dk_42 (dk_at dksX3_city_12 3 rfl rfl)
theorem dX3_city_288 : decode cX3_city 288 = .ok (.getfield 29, 3) := dk_180 0 29 (dk_at dksX3_city_12 4 rfl rfl)
theorem dX3_city_291 : decode cX3_city 291 = .ok (.invokevirtual 328, 3) := dk_182 1 72 (dk_at dksX3_city_12 7 rfl rfl)
theorem dX3_city_294 : decode cX3_city 294 = .ok (.aload_n 0, 1) := dk_42 (dk_at dksX3_city_12 10 rfl rfl)
theorem dX3_city_295 : decode cX3_city 295 = .ok (.aload_n 0, 1) := dk_42 (dk_at dksX3_city_12 11 rfl rfl)
theorem dX3_city_296 : decode cX3_city 296 = .ok (.getfield 68, 3) := dk_180 0 68 (dk_at dksX3_city_12 12 rfl rfl)
theorem dX3_city_299 : decode cX3_city 299 = .ok (.aload_n 0, 1) := dk_42 (dk_at dksX3_city_12 15 rfl rfl)
theorem dX3_city_300 : decode cX3_city 300 = .ok (.getfield 32, 3) := dk_180 0 32 (dk_at dksX3_city_12 16 rfl rfl)
theorem dX3_city_303 : decode cX3_city 303 = .ok (.invokevirtual 328, 3) := dk_182 1 72 (dk_at dksX3_city_12 19 rfl rfl)
theorem dX3_city_306 : decode cX3_city 306 = .ok (.aload_n 0, 1) := dk_42 (dk_at dksX3_city_12 22 rfl rfl)
theorem dX3_city_307 : decode cX3_city 307 = .ok (.getfield 78, 3) := dk_180 0 78 (dk_at dksX3_city_13 0 rfl rfl)
theorem dX3_city_310 : decode cX3_city 310 = .ok (.iconst 0, 1) := dk_3 (dk_at dksX3_city_13 3 rfl rfl)
theorem dX3_city_311 : decode cX3_city 311 = .ok (.aload_n 0, 1) := dk_42 (dk_at dksX3_city_13 4 rfl rfl)
theorem dX3_city_312 : decode cX3_city 312 = .ok (.getfield 325, 3) := dk_180 1 69 (dk_at dksX3_city_13 5 rfl rfl)
theorem dX3_city_315 : decode cX3_city 315 = .ok (.ifCond .le 7, 3) := dk_158 0 7 (dk_at dksX3_city_13 8 rfl rfl)
theorem dX3_city_318 : decode cX3_city 318 = .ok (.iconst 0, 1) := dk_3 (dk_at dksX3_city_13 11 rfl rfl)
theorem dX3_city_319 : decode cX3_city 319 = .ok (.goto 4, 3) := dk_167 0 4 (dk_at dksX3_city_13 12 rfl rfl)
theorem dX3_city_322 : decode cX3_city 322 = .ok (.iconst (-1), 1) := dk_2 (dk_at dksX3_city_13 15 rfl rfl)
theorem dX3_city_323 : decode cX3_city 323 = .ok (.iastore, 1) := dk_79 (dk_at dksX3_city_13 16 rfl rfl)
theorem dX3_city_324 : decode cX3_city 324 = .ok (.aload_n 0, 1) := dk_42 (dk_at dksX3_city_13 17 rfl rfl)
theorem dX3_city_325 : decode cX3_city 325 = .ok (.getfield 78, 3) := dk_180 0 78 (dk_at dksX3_city_13 18 rfl rfl)
theorem dX3_city_328 : decode cX3_city 328 = .ok (.iconst 1, 1) := dk_4 (dk_at dksX3_city_13 21 rfl rfl)
theorem dX3_city_329 : decode cX3_city 329 = .ok (.iconst 0, 1) := dk_3 (dk_at dksX3_city_13 22 rfl rfl)
theorem dX3_city_330 : decode cX3_city 330 = .ok (.iastore, 1) := dk_79 (dk_at dksX3_city_13 23 rfl rfl)
theorem dX3_city_331 : decode cX3_city 331 = .ok (.aload_n 0, 1) := dk_42 (dk_at dksX3_city_14 0 rfl rfl)
theorem dX3_city_332 : decode cX3_city 332 = .ok (.getfield 78, 3) := dk_180 0 78 (dk_at dksX3_city_14 1 rfl rfl)
theorem dX3_city_335 : decode cX3_city 335 = .ok (.iconst 2, 1) := dk_5 (dk_at dksX3_city_14 4 rfl rfl)
theorem dX3_city_336 : decode cX3_city 336 = .ok (.iconst 0, 1) := dk_3 (dk_at dksX3_city_14 5 rfl rfl)
theorem dX3_city_337 : decode cX3_city 337 = .ok (.iastore, 1) := dk_79 (dk_at dksX3_city_14 6 rfl rfl)
theorem dX3_city_338 : decode cX3_city 338 = .ok (.aload_n 0, 1) := dk_42 (dk_at dksX3_city_14 7 rfl rfl)
theorem dX3_city_339 : decode cX3_city 339 = .ok (.getfield 78, 3) := dk_180 0 78 (dk_at dksX3_city_14 8 rfl rfl)
theorem dX3_city_342 : decode cX3_city 342 = .ok (.iconst 3, 1) := dk_6 (dk_at dksX3_city_14 11 rfl rfl)
theorem dX3_city_343 : decode cX3_city 343 = .ok (.iconst 0, 1) := dk_3 (dk_at dksX3_city_14 12 rfl rfl)
theorem dX3_city_344 : decode cX3_city 344 = .ok (.iastore, 1) := dk_79 (dk_at dksX3_city_14 13 rfl rfl)
theorem dX3_city_345 : decode cX3_city 345 = .ok (.iconst 0, 1) := dk_3 (dk_at dksX3_city_14 14 rfl rfl)
theorem dX3_city_346 : decode cX3_city 346 = .ok (.istore_n 2, 1) := dk_61 (dk_at dksX3_city_14 15 rfl rfl)
theorem dX3_city_347 : decode cX3_city 347 = .ok (.iload_n 2, 1) := dk_28 (dk_at dksX3_city_14 16 rfl rfl)
theorem dX3_city_348 : decode cX3_city 348 = .ok (.bipush 10, 2) := dk_16 10 (dk_at dksX3_city_14 17 rfl rfl)
theorem dX3_city_350 : decode cX3_city 350 = .ok (.if_icmp .ge 23, 3) := dk_162 0 23 (dk_at dksX3_city_14 19 rfl rfl)
theorem dX3_city_353 : decode cX3_city 353 = .ok (.aload_n 0, 1) := dk_42 (dk_at dksX3_city_14 22 rfl rfl)
theorem dX3_city_354 : decode cX3_city 354 = .ok (.getfield 78, 3) := dk_180 0 78 (dk_at dksX3_city_15 0 rfl rfl)
theorem dX3_city_357 : decode cX3_city 357 = .ok (.iconst 4, 1) := dk_7 (dk_at dksX3_city_15 3 rfl rfl)
theorem dX3_city_358 : decode cX3_city 358 = .ok (.iload_n 2, 1) := dk_28 (dk_at dksX3_city_15 4 rfl rfl)
theorem dX3_city_359 : decode cX3_city 359 = .ok (.iadd, 1) := dk_96 (dk_at dksX3_city_15 5 rfl rfl)
theorem dX3_city_360 : decode cX3_city 360 = .ok (.aload_n 0, 1) := dk_42 (dk_at dksX3_city_15 6 rfl rfl)
theorem dX3_city_361 : decode cX3_city 361 = .ok (.getfield 44, 3) := dk_180 0 44 (dk_at dksX3_city_15 7 rfl rfl)
theorem dX3_city_364 : decode cX3_city 364 = .ok (.iload_n 2, 1) := dk_28 (dk_at dksX3_city_15 10 rfl rfl)
theorem dX3_city_365 : decode cX3_city 365 = .ok (.iaload, 1) := dk_46 (dk_at dksX3_city_15 11 rfl rfl)
theorem dX3_city_366 : decode cX3_city 366 = .ok (.iastore, 1) := dk_79 (dk_at dksX3_city_15 12 rfl rfl)
theorem dX3_city_367 : decode cX3_city 367 = .ok (.iinc 2 1, 3) := dk_132 2 1 (dk_at dksX3_city_15 13 rfl rfl)
theorem dX3_city_370 : decode cX3_city 370 = .ok (.goto (-23), 3) := dk_167 255 233 (dk_at dksX3_city_15 16 rfl rfl)
theorem dX3_city_373 : decode cX3_city 373 = .ok (.iconst 0, 1) := dk_3 (dk_at dksX3_city_15 19 rfl rfl)
theorem dX3_city_374 : decode cX3_city 374 = .ok (.istore_n 2, 1) := dk_61 (dk_at dksX3_city_15 20 rfl rfl)
theorem dX3_city_375 : decode cX3_city 375 = .ok (.iload_n 2, 1) := dk_28 (dk_at dksX3_city_15 21 rfl rfl)
theorem dX3_city_376 : decode cX3_city 376 = .ok (.iconst 5, 1) := dk_8 (dk_at dksX3_city_15 22 rfl rfl)
theorem dX3_city_377 : decode cX3_city 377 = .ok (.if_icmp .ge 24, 3) := dk_162 0 24 (dk_at dksX3_city_16 0 rfl rfl)
theorem dX3_city_380 : decode cX3_city 380 = .ok (.aload_n 0, 1) := dk_42 (dk_at dksX3_city_16 3 rfl rfl)
theorem dX3_city_381 : decode cX3_city 381 = .ok (.getfield 78, 3) := dk_180 0 78 (dk_at dksX3_city_16 4 rfl rfl)
theorem dX3_city_384 : decode cX3_city 384 = .ok (.bipush 14, 2) := dk_16 14 (dk_at dksX3_city_16 7 rfl rfl)
theorem dX3_city_386 : decode cX3_city 386 = .ok (.iload_n 2, 1) := dk_28 (dk_at dksX3_city_16 9 rfl rfl)
theorem dX3_city_387 : decode cX3_city 387 = .ok (.iadd, 1) := dk_96 (dk_at dksX3_city_16 10 rfl rfl)
theorem dX3_city_388 : decode cX3_city 388 = .ok (.aload_n 0, 1) := dk_42 (dk_at dksX3_city_16 11 rfl rfl)
theorem dX3_city_389 : decode cX3_city 389 = .ok (.getfield 53, 3) := dk_180 0 53 (dk_at dksX3_city_16 12 rfl rfl)
theorem dX3_city_392 : decode cX3_city 392 = .ok (.iload_n 2, 1) := dk_28 (dk_at dksX3_city_16 15 rfl rfl)
theorem dX3_city_393 : decode cX3_city 393 = .ok (.iaload, 1) := dk_46 (dk_at dksX3_city_16 16 rfl rfl)
theorem dX3_city_394 : decode cX3_city 394 = .ok (.iastore, 1) := dk_79 (dk_at dksX3_city_16 17 rfl rfl)
theorem dX3_city_395 : decode cX3_city 395 = .ok (.iinc 2 1, 3) := dk_132 2 1 (dk_at dksX3_city_16 18 rfl rfl)
theorem dX3_city_398 : decode cX3_city 398 = .ok (.goto (-23), 3) := dk_167 255 233 (dk_at dksX3_city_16 21 rfl rfl)
theorem dX3_city_401 : decode cX3_city 401 = .ok (.aload_n 0, 1) := dk_42 (dk_at dksX3_city_17 0 rfl rfl)
theorem dX3_city_402 : decode cX3_city 402 = .ok (.invokevirtual 332, 3) := dk_182 1 76 (dk_at dksX3_city_17 1 rfl rfl)
theorem dX3_city_405 : decode cX3_city 405 = .ok (.aload_n 0, 1) := dk_42 (dk_at dksX3_city_17 4 rfl rfl)
theorem dX3_city_406 : decode cX3_city 406 = .ok (.iconst 0, 1) := dk_3 (dk_at dksX3_city_17 5 rfl rfl)
theorem dX3_city_407 : decode cX3_city 407 = .ok (.putfield 335, 3) := dk_181 1 79 (dk_at dksX3_city_17 6 rfl rfl)
theorem dX3_city_410 : decode cX3_city 410 = .ok (.aload_n 0, 1) := dk_42 (dk_at dksX3_city_17 9 rfl rfl)
theorem dX3_city_411 : decode cX3_city 411 = .ok (.iconst 0, 1) := dk_3 (dk_at dksX3_city_17 10 rfl rfl)
theorem dX3_city_412 : decode cX3_city 412 = .ok (.putfield 338, 3) := dk_181 1 82 (dk_at dksX3_city_17 11 rfl rfl)
theorem dX3_city_415 : decode cX3_city 415 = .ok (.aload_n 0, 1) := dk_42 (dk_at dksX3_city_17 14 rfl rfl)
theorem dX3_city_416 : decode cX3_city 416 = .ok (.iconst 0, 1) := dk_3 (dk_at dksX3_city_17 15 rfl rfl)
theorem dX3_city_417 : decode cX3_city 417 = .ok (.putfield 341, 3) := dk_181 1 85 (dk_at dksX3_city_17 16 rfl rfl)
theorem dX3_city_420 : decode cX3_city 420 = .ok (.aload_n 0, 1) := dk_42 (dk_at dksX3_city_17 19 rfl rfl)
theorem dX3_city_421 : decode cX3_city 421 = .ok (.iconst 0, 1) := dk_3 (dk_at dksX3_city_17 20 rfl rfl)
theorem dX3_city_422 : decode cX3_city 422 = .ok (.putfield 345, 3) := dk_181 1 89 (dk_at dksX3_city_17 21 rfl rfl)
theorem dX3_city_425 : decode cX3_city 425 = .ok (.iconst 0, 1) := dk_3 (dk_at dksX3_city_18 0 rfl rfl)
theorem dX3_city_426 : decode cX3_city 426 = .ok (.ireturn, 1) := dk_172 (dk_at dksX3_city_18 1 rfl rfl)
abbrev cX3_right : ByteArray := prog_14_method_3_code
def yX3_right : MethodName := ⟨RX3, "right", "(ZI)Z"⟩
def dkwX3_right_1 : List UInt8 := [167, 0, 4, 3, 172]
abbrev dktX3_right_1 : List UInt8 := dkwX3_right_1 ++ []
def dkwX3_right_0 : List UInt8 := [42, 180, 0, 147, 154, 0, 12, 27, 154, 0, 8, 42, 28, 181, 0, 147, 42, 180, 0, 147, 154, 0, 7, 4]
abbrev dktX3_right_0 : List UInt8 := dkwX3_right_0 ++ dktX3_right_1
theorem dksX3_right_0 : cX3_right.data.toList.drop 0 = dktX3_right_0 := by decide +kernel
theorem dksX3_right_1 : cX3_right.data.toList.drop 24 = dktX3_right_1 := dk_seg dksX3_right_0 24 rfl rfl
theorem dX3_right_0 : decode cX3_right 0 = .ok (.aload_n 0, 1) := dk_42 (dk_at dksX3_right_0 0 rfl rfl)
theorem dX3_right_1 : decode cX3_right 1 = .ok (.getfield 147, 3) := dk_180 0 147 (dk_at dksX3_right_0 1 rfl rfl)
theorem dX3_right_4 : decode cX3_right 4 = .ok (.ifCond .ne 12, 3) := dk_154 0 12 (dk_at dksX3_right_0 4 rfl rfl)
theorem dX3_right_7 : decode cX3_right 7 = .ok (.iload_n 1, 1) := dk_27 (dk_at dksX3_right_0 7 rfl rfl)
theorem dX3_right_8 : decode cX3_right 8 = .ok (.ifCond .ne 8, 3) := dk_154 0 8 (dk_at dksX3_right_0 8 rfl rfl)
theorem dX3_right_11 : decode cX3_right 11 = .ok (.aload_n 0, 1) := dk_42 (dk_at dksX3_right_0 11 rfl rfl)
theorem dX3_right_12 : decode cX3_right 12 = .ok (.iload_n 2, 1) := dk_28 (dk_at dksX3_right_0 12 rfl rfl)
theorem dX3_right_13 : decode cX3_right 13 = .ok (.putfield 147, 3) := dk_181 0 147 (dk_at dksX3_right_0 13 rfl rfl)
theorem dX3_right_16 : decode cX3_right 16 = .ok (.aload_n 0, 1) := dk_42 (dk_at dksX3_right_0 16 rfl rfl)
theorem dX3_right_17 : decode cX3_right 17 = .ok (.getfield 147, 3) := dk_180 0 147 (dk_at dksX3_right_0 17 rfl rfl)
theorem dX3_right_20 : decode cX3_right 20 = .ok (.ifCond .ne 7, 3) := dk_154 0 7 (dk_at dksX3_right_0 20 rfl rfl)
theorem dX3_right_23 : decode cX3_right 23 = .ok (.iconst 1, 1) := dk_4 (dk_at dksX3_right_0 23 rfl rfl)
theorem dX3_right_24 : decode cX3_right 24 = .ok (.goto 4, 3) := dk_167 0 4 (dk_at dksX3_right_1 0 rfl rfl)
theorem dX3_right_27 : decode cX3_right 27 = .ok (.iconst 0, 1) := dk_3 (dk_at dksX3_right_1 3 rfl rfl)
theorem dX3_right_28 : decode cX3_right 28 = .ok (.ireturn, 1) := dk_172 (dk_at dksX3_right_1 4 rfl rfl)
abbrev cX3_goes : ByteArray := prog_14_method_13_code
def yX3_goes : MethodName := ⟨RX3, "goes", "()V"⟩
def dkwX3_goes_14 : List UInt8 := [167, 0, 4, 7, 181, 0, 180, 42, 42, 180, 0, 160, 42, 180, 0, 167, 100, 181, 0, 190, 177]
abbrev dktX3_goes_14 : List UInt8 := dkwX3_goes_14 ++ []
def dkwX3_goes_13 : List UInt8 := [16, 42, 159, 0, 21, 27, 16, 47, 159, 0, 15, 27, 16, 60, 159, 0, 9, 27, 16, 61, 160, 0, 7, 6]
abbrev dktX3_goes_13 : List UInt8 := dkwX3_goes_13 ++ dktX3_goes_14
def dkwX3_goes_12 : List UInt8 := [16, 40, 159, 0, 45, 27, 16, 41, 159, 0, 39, 27, 16, 43, 159, 0, 33, 27, 16, 45, 159, 0, 27, 27]
abbrev dktX3_goes_12 : List UInt8 := dkwX3_goes_12 ++ dktX3_goes_13
def dkwX3_goes_11 : List UInt8 := [181, 0, 180, 167, 0, 76, 42, 89, 180, 0, 160, 4, 96, 181, 0, 160, 42, 27, 16, 59, 159, 0, 51, 27]
abbrev dktX3_goes_11 : List UInt8 := dkwX3_goes_11 ++ dktX3_goes_12
def dkwX3_goes_10 : List UInt8 := [96, 16, 48, 100, 181, 0, 174, 42, 89, 180, 0, 160, 4, 96, 181, 0, 160, 167, 255, 196, 42, 5]
abbrev dktX3_goes_10 : List UInt8 := dkwX3_goes_10 ++ dktX3_goes_11
def dkwX3_goes_9 : List UInt8 := [180, 0, 167, 100, 7, 162, 0, 26, 42, 16, 10, 42, 180, 0, 174, 104, 42, 42, 180, 0, 160, 182, 0, 163]
abbrev dktX3_goes_9 : List UInt8 := dkwX3_goes_9 ++ dktX3_goes_10
def dkwX3_goes_8 : List UInt8 := [153, 0, 74, 42, 42, 180, 0, 160, 182, 0, 163, 184, 0, 187, 153, 0, 52, 42, 180, 0, 160, 42]
abbrev dktX3_goes_8 : List UInt8 := dkwX3_goes_8 ++ dktX3_goes_9
def dkwX3_goes_7 : List UInt8 := [180, 0, 160, 4, 96, 181, 0, 160, 167, 255, 195, 42, 4, 181, 0, 180, 167, 0, 154, 27, 184, 0, 187]
abbrev dktX3_goes_7 : List UInt8 := dkwX3_goes_7 ++ dktX3_goes_8
def dkwX3_goes_6 : List UInt8 := [180, 0, 170, 8, 121, 42, 42, 180, 0, 160, 182, 0, 163, 16, 96, 100, 133, 129, 181, 0, 170, 42, 89]
abbrev dktX3_goes_6 : List UInt8 := dkwX3_goes_6 ++ dktX3_goes_7
def dkwX3_goes_5 : List UInt8 := [184, 0, 183, 153, 0, 53, 42, 180, 0, 160, 42, 180, 0, 167, 100, 16, 6, 162, 0, 26, 42, 42]
abbrev dktX3_goes_5 : List UInt8 := dkwX3_goes_5 ++ dktX3_goes_6
def dkwX3_goes_4 : List UInt8 := [3, 181, 0, 180, 167, 0, 233, 27, 184, 0, 183, 153, 0, 75, 42, 42, 180, 0, 160, 182, 0, 163]
abbrev dktX3_goes_4 : List UInt8 := dkwX3_goes_4 ++ dktX3_goes_5
def dkwX3_goes_3 : List UInt8 := [180, 0, 160, 182, 0, 163, 60, 42, 27, 181, 0, 177, 42, 180, 0, 160, 42, 180, 0, 157, 161, 0, 11, 42]
abbrev dktX3_goes_3 : List UInt8 := dkwX3_goes_3 ++ dktX3_goes_4
def dkwX3_goes_2 : List UInt8 := [167, 255, 209, 42, 42, 180, 0, 160, 181, 0, 167, 42, 9, 181, 0, 170, 42, 3, 181, 0, 174, 42, 42]
abbrev dktX3_goes_2 : List UInt8 := dkwX3_goes_2 ++ dktX3_goes_3
def dkwX3_goes_1 : List UInt8 := [42, 42, 180, 0, 160, 182, 0, 163, 16, 10, 160, 0, 16, 42, 89, 180, 0, 160, 4, 96, 181, 0, 160]
abbrev dktX3_goes_1 : List UInt8 := dkwX3_goes_1 ++ dktX3_goes_2
def dkwX3_goes_0 : List UInt8 := [42, 180, 0, 160, 42, 180, 0, 157, 162, 0, 42, 42, 42, 180, 0, 160, 182, 0, 163, 16, 32, 159, 0, 16]
abbrev dktX3_goes_0 : List UInt8 := dkwX3_goes_0 ++ dktX3_goes_1
theorem dksX3_goes_0 : cX3_goes.data.toList.drop 0 = dktX3_goes_0 := by decide +kernel
theorem dksX3_goes_1 : cX3_goes.data.toList.drop 24 = dktX3_goes_1 := dk_seg dksX3_goes_0 24 rfl rfl
theorem dksX3_goes_2 : cX3_goes.data.toList.drop 47 = dktX3_goes_2 := dk_seg dksX3_goes_1 23 rfl rfl
theorem dksX3_goes_3 : cX3_goes.data.toList.drop 70 = dktX3_goes_3 := dk_seg dksX3_goes_2 23 rfl rfl
theorem dksX3_goes_4 : cX3_goes.data.toList.drop 94 = dktX3_goes_4 := dk_seg dksX3_goes_3 24 rfl rfl
theorem dksX3_goes_5 : cX3_goes.data.toList.drop 116 = dktX3_goes_5 := dk_seg dksX3_goes_4 22 rfl rfl
theorem dksX3_goes_6 : cX3_goes.data.toList.drop 138 = dktX3_goes_6 := dk_seg dksX3_goes_5 22 rfl rfl
theorem dksX3_goes_7 : cX3_goes.data.toList.drop 161 = dktX3_goes_7 := dk_seg dksX3_goes_6 23 rfl rfl
theorem dksX3_goes_8 : cX3_goes.data.toList.drop 184 = dktX3_goes_8 := dk_seg dksX3_goes_7 23 rfl rfl
theorem dksX3_goes_9 : cX3_goes.data.toList.drop 206 = dktX3_goes_9 := dk_seg dksX3_goes_8 22 rfl rfl
theorem dksX3_goes_10 : cX3_goes.data.toList.drop 230 = dktX3_goes_10 := dk_seg dksX3_goes_9 24 rfl rfl
theorem dksX3_goes_11 : cX3_goes.data.toList.drop 252 = dktX3_goes_11 := dk_seg dksX3_goes_10 22 rfl rfl
theorem dksX3_goes_12 : cX3_goes.data.toList.drop 276 = dktX3_goes_12 := dk_seg dksX3_goes_11 24 rfl rfl
theorem dksX3_goes_13 : cX3_goes.data.toList.drop 300 = dktX3_goes_13 := dk_seg dksX3_goes_12 24 rfl rfl
theorem dksX3_goes_14 : cX3_goes.data.toList.drop 324 = dktX3_goes_14 := dk_seg dksX3_goes_13 24 rfl rfl
theorem dX3_goes_0 : decode cX3_goes 0 = .ok (.aload_n 0, 1) := dk_42 (dk_at dksX3_goes_0 0 rfl rfl)
theorem dX3_goes_1 : decode cX3_goes 1 = .ok (.getfield 160, 3) := dk_180 0 160 (dk_at dksX3_goes_0 1 rfl rfl)
theorem dX3_goes_4 : decode cX3_goes 4 = .ok (.aload_n 0, 1) := dk_42 (dk_at dksX3_goes_0 4 rfl rfl)
theorem dX3_goes_5 : decode cX3_goes 5 = .ok (.getfield 157, 3) := dk_180 0 157 (dk_at dksX3_goes_0 5 rfl rfl)
theorem dX3_goes_8 : decode cX3_goes 8 = .ok (.if_icmp .ge 42, 3) := dk_162 0 42 (dk_at dksX3_goes_0 8 rfl rfl)
theorem dX3_goes_11 : decode cX3_goes 11 = .ok (.aload_n 0, 1) := dk_42 (dk_at dksX3_goes_0 11 rfl rfl)
theorem dX3_goes_12 : decode cX3_goes 12 = .ok (.aload_n 0, 1) := dk_42 (dk_at dksX3_goes_0 12 rfl rfl)
theorem dX3_goes_13 : decode cX3_goes 13 = .ok (.getfield 160, 3) := dk_180 0 160 (dk_at dksX3_goes_0 13 rfl rfl)
theorem dX3_goes_16 : decode cX3_goes 16 = .ok (.invokevirtual 163, 3) := dk_182 0 163 (dk_at dksX3_goes_0 16 rfl rfl)
theorem dX3_goes_19 : decode cX3_goes 19 = .ok (.bipush 32, 2) := dk_16 32 (dk_at dksX3_goes_0 19 rfl rfl)
theorem dX3_goes_21 : decode cX3_goes 21 = .ok (.if_icmp .eq 16, 3) := dk_159 0 16 (dk_at dksX3_goes_0 21 rfl rfl)
theorem dX3_goes_24 : decode cX3_goes 24 = .ok (.aload_n 0, 1) := dk_42 (dk_at dksX3_goes_1 0 rfl rfl)
theorem dX3_goes_25 : decode cX3_goes 25 = .ok (.aload_n 0, 1) := dk_42 (dk_at dksX3_goes_1 1 rfl rfl)
theorem dX3_goes_26 : decode cX3_goes 26 = .ok (.getfield 160, 3) := dk_180 0 160 (dk_at dksX3_goes_1 2 rfl rfl)
theorem dX3_goes_29 : decode cX3_goes 29 = .ok (.invokevirtual 163, 3) := dk_182 0 163 (dk_at dksX3_goes_1 5 rfl rfl)
theorem dX3_goes_32 : decode cX3_goes 32 = .ok (.bipush 10, 2) := dk_16 10 (dk_at dksX3_goes_1 8 rfl rfl)
theorem dX3_goes_34 : decode cX3_goes 34 = .ok (.if_icmp .ne 16, 3) := dk_160 0 16 (dk_at dksX3_goes_1 10 rfl rfl)
theorem dX3_goes_37 : decode cX3_goes 37 = .ok (.aload_n 0, 1) := dk_42 (dk_at dksX3_goes_1 13 rfl rfl)
theorem dX3_goes_38 : decode cX3_goes 38 = .ok (.dup, 1) := dk_89 (dk_at dksX3_goes_1 14 rfl rfl)
theorem dX3_goes_39 : decode cX3_goes 39 = .ok (.getfield 160, 3) := dk_180 0 160 (dk_at dksX3_goes_1 15 rfl rfl)
theorem dX3_goes_42 : decode cX3_goes 42 = .ok (.iconst 1, 1) := dk_4 (dk_at dksX3_goes_1 18 rfl rfl)
theorem dX3_goes_43 : decode cX3_goes 43 = .ok (.iadd, 1) := dk_96 (dk_at dksX3_goes_1 19 rfl rfl)
theorem dX3_goes_44 : decode cX3_goes 44 = .ok (.putfield 160, 3) := dk_181 0 160 (dk_at dksX3_goes_1 20 rfl rfl)
theorem dX3_goes_47 : decode cX3_goes 47 = .ok (.goto (-47), 3) := dk_167 255 209 (dk_at dksX3_goes_2 0 rfl rfl)
theorem dX3_goes_50 : decode cX3_goes 50 = .ok (.aload_n 0, 1) := dk_42 (dk_at dksX3_goes_2 3 rfl rfl)
theorem dX3_goes_51 : decode cX3_goes 51 = .ok (.aload_n 0, 1) := dk_42 (dk_at dksX3_goes_2 4 rfl rfl)
theorem dX3_goes_52 : decode cX3_goes 52 = .ok (.getfield 160, 3) := dk_180 0 160 (dk_at dksX3_goes_2 5 rfl rfl)
theorem dX3_goes_55 : decode cX3_goes 55 = .ok (.putfield 167, 3) := dk_181 0 167 (dk_at dksX3_goes_2 8 rfl rfl)
theorem dX3_goes_58 : decode cX3_goes 58 = .ok (.aload_n 0, 1) := dk_42 (dk_at dksX3_goes_2 11 rfl rfl)
theorem dX3_goes_59 : decode cX3_goes 59 = .ok (.lconst 0, 1) := dk_9 (dk_at dksX3_goes_2 12 rfl rfl)
theorem dX3_goes_60 : decode cX3_goes 60 = .ok (.putfield 170, 3) := dk_181 0 170 (dk_at dksX3_goes_2 13 rfl rfl)
theorem dX3_goes_63 : decode cX3_goes 63 = .ok (.aload_n 0, 1) := dk_42 (dk_at dksX3_goes_2 16 rfl rfl)
theorem dX3_goes_64 : decode cX3_goes 64 = .ok (.iconst 0, 1) := dk_3 (dk_at dksX3_goes_2 17 rfl rfl)
theorem dX3_goes_65 : decode cX3_goes 65 = .ok (.putfield 174, 3) := dk_181 0 174 (dk_at dksX3_goes_2 18 rfl rfl)
theorem dX3_goes_68 : decode cX3_goes 68 = .ok (.aload_n 0, 1) := dk_42 (dk_at dksX3_goes_2 21 rfl rfl)
theorem dX3_goes_69 : decode cX3_goes 69 = .ok (.aload_n 0, 1) := dk_42 (dk_at dksX3_goes_2 22 rfl rfl)
theorem dX3_goes_70 : decode cX3_goes 70 = .ok (.getfield 160, 3) := dk_180 0 160 (dk_at dksX3_goes_3 0 rfl rfl)
theorem dX3_goes_73 : decode cX3_goes 73 = .ok (.invokevirtual 163, 3) := dk_182 0 163 (dk_at dksX3_goes_3 3 rfl rfl)
theorem dX3_goes_76 : decode cX3_goes 76 = .ok (.istore_n 1, 1) := dk_60 (dk_at dksX3_goes_3 6 rfl rfl)
theorem dX3_goes_77 : decode cX3_goes 77 = .ok (.aload_n 0, 1) := dk_42 (dk_at dksX3_goes_3 7 rfl rfl)
theorem dX3_goes_78 : decode cX3_goes 78 = .ok (.iload_n 1, 1) := dk_27 (dk_at dksX3_goes_3 8 rfl rfl)
theorem dX3_goes_79 : decode cX3_goes 79 = .ok (.putfield 177, 3) := dk_181 0 177 (dk_at dksX3_goes_3 9 rfl rfl)
theorem dX3_goes_82 : decode cX3_goes 82 = .ok (.aload_n 0, 1) := dk_42 (dk_at dksX3_goes_3 12 rfl rfl)
theorem dX3_goes_83 : decode cX3_goes 83 = .ok (.getfield 160, 3) := dk_180 0 160 (dk_at dksX3_goes_3 13 rfl rfl)
theorem dX3_goes_86 : decode cX3_goes 86 = .ok (.aload_n 0, 1) := dk_42 (dk_at dksX3_goes_3 16 rfl rfl)
theorem dX3_goes_87 : decode cX3_goes 87 = .ok (.getfield 157, 3) := dk_180 0 157 (dk_at dksX3_goes_3 17 rfl rfl)
theorem dX3_goes_90 : decode cX3_goes 90 = .ok (.if_icmp .lt 11, 3) := dk_161 0 11 (dk_at dksX3_goes_3 20 rfl rfl)
theorem dX3_goes_93 : decode cX3_goes 93 = .ok (.aload_n 0, 1) := dk_42 (dk_at dksX3_goes_3 23 rfl rfl)
theorem dX3_goes_94 : decode cX3_goes 94 = .ok (.iconst 0, 1) := dk_3 (dk_at dksX3_goes_4 0 rfl rfl)
theorem dX3_goes_95 : decode cX3_goes 95 = .ok (.putfield 180, 3) := dk_181 0 180 (dk_at dksX3_goes_4 1 rfl rfl)
theorem dX3_goes_98 : decode cX3_goes 98 = .ok (.goto 233, 3) := dk_167 0 233 (dk_at dksX3_goes_4 4 rfl rfl)
theorem dX3_goes_101 : decode cX3_goes 101 = .ok (.iload_n 1, 1) := dk_27 (dk_at dksX3_goes_4 7 rfl rfl)
theorem dX3_goes_102 : decode cX3_goes 102 = .ok (.invokestatic 183, 3) := dk_184 0 183 (dk_at dksX3_goes_4 8 rfl rfl)
theorem dX3_goes_105 : decode cX3_goes 105 = .ok (.ifCond .eq 75, 3) := dk_153 0 75 (dk_at dksX3_goes_4 11 rfl rfl)
theorem dX3_goes_108 : decode cX3_goes 108 = .ok (.aload_n 0, 1) := dk_42 (dk_at dksX3_goes_4 14 rfl rfl)
theorem dX3_goes_109 : decode cX3_goes 109 = .ok (.aload_n 0, 1) := dk_42 (dk_at dksX3_goes_4 15 rfl rfl)
theorem dX3_goes_110 : decode cX3_goes 110 = .ok (.getfield 160, 3) := dk_180 0 160 (dk_at dksX3_goes_4 16 rfl rfl)
theorem dX3_goes_113 : decode cX3_goes 113 = .ok (.invokevirtual 163, 3) := dk_182 0 163 (dk_at dksX3_goes_4 19 rfl rfl)
theorem dX3_goes_116 : decode cX3_goes 116 = .ok (.invokestatic 183, 3) := dk_184 0 183 (dk_at dksX3_goes_5 0 rfl rfl)
theorem dX3_goes_119 : decode cX3_goes 119 = .ok (.ifCond .eq 53, 3) := dk_153 0 53 (dk_at dksX3_goes_5 3 rfl rfl)
theorem dX3_goes_122 : decode cX3_goes 122 = .ok (.aload_n 0, 1) := dk_42 (dk_at dksX3_goes_5 6 rfl rfl)
theorem dX3_goes_123 : decode cX3_goes 123 = .ok (.getfield 160, 3) := dk_180 0 160 (dk_at dksX3_goes_5 7 rfl rfl)
theorem dX3_goes_126 : decode cX3_goes 126 = .ok (.aload_n 0, 1) := dk_42 (dk_at dksX3_goes_5 10 rfl rfl)
theorem dX3_goes_127 : decode cX3_goes 127 = .ok (.getfield 167, 3) := dk_180 0 167 (dk_at dksX3_goes_5 11 rfl rfl)
theorem dX3_goes_130 : decode cX3_goes 130 = .ok (.isub, 1) := dk_100 (dk_at dksX3_goes_5 14 rfl rfl)
theorem dX3_goes_131 : decode cX3_goes 131 = .ok (.bipush 6, 2) := dk_16 6 (dk_at dksX3_goes_5 15 rfl rfl)
theorem dX3_goes_133 : decode cX3_goes 133 = .ok (.if_icmp .ge 26, 3) := dk_162 0 26 (dk_at dksX3_goes_5 17 rfl rfl)
theorem dX3_goes_136 : decode cX3_goes 136 = .ok (.aload_n 0, 1) := dk_42 (dk_at dksX3_goes_5 20 rfl rfl)
theorem dX3_goes_137 : decode cX3_goes 137 = .ok (.aload_n 0, 1) := dk_42 (dk_at dksX3_goes_5 21 rfl rfl)
theorem dX3_goes_138 : decode cX3_goes 138 = .ok (.getfield 170, 3) := dk_180 0 170 (dk_at dksX3_goes_6 0 rfl rfl)
theorem dX3_goes_141 : decode cX3_goes 141 = .ok (.iconst 5, 1) := dk_8 (dk_at dksX3_goes_6 3 rfl rfl)
theorem dX3_goes_142 : decode cX3_goes 142 = .ok (.lshl, 1) := dk_121 (dk_at dksX3_goes_6 4 rfl rfl)
theorem dX3_goes_143 : decode cX3_goes 143 = .ok (.aload_n 0, 1) := dk_42 (dk_at dksX3_goes_6 5 rfl rfl)
theorem dX3_goes_144 : decode cX3_goes 144 = .ok (.aload_n 0, 1) := dk_42 (dk_at dksX3_goes_6 6 rfl rfl)
theorem dX3_goes_145 : decode cX3_goes 145 = .ok (.getfield 160, 3) := dk_180 0 160 (dk_at dksX3_goes_6 7 rfl rfl)
theorem dX3_goes_148 : decode cX3_goes 148 = .ok (.invokevirtual 163, 3) := dk_182 0 163 (dk_at dksX3_goes_6 10 rfl rfl)
theorem dX3_goes_151 : decode cX3_goes 151 = .ok (.bipush 96, 2) := dk_16 96 (dk_at dksX3_goes_6 13 rfl rfl)
theorem dX3_goes_153 : decode cX3_goes 153 = .ok (.isub, 1) := dk_100 (dk_at dksX3_goes_6 15 rfl rfl)
theorem dX3_goes_154 : decode cX3_goes 154 = .ok (.i2l, 1) := dk_133 (dk_at dksX3_goes_6 16 rfl rfl)
theorem dX3_goes_155 : decode cX3_goes 155 = .ok (.lor, 1) := dk_129 (dk_at dksX3_goes_6 17 rfl rfl)
theorem dX3_goes_156 : decode cX3_goes 156 = .ok (.putfield 170, 3) := dk_181 0 170 (dk_at dksX3_goes_6 18 rfl rfl)
theorem dX3_goes_159 : decode cX3_goes 159 = .ok (.aload_n 0, 1) := dk_42 (dk_at dksX3_goes_6 21 rfl rfl)
theorem dX3_goes_160 : decode cX3_goes 160 = .ok (.dup, 1) := dk_89 (dk_at dksX3_goes_6 22 rfl rfl)
theorem dX3_goes_161 : decode cX3_goes 161 = .ok (.getfield 160, 3) := dk_180 0 160 (dk_at dksX3_goes_7 0 rfl rfl)
theorem dX3_goes_164 : decode cX3_goes 164 = .ok (.iconst 1, 1) := dk_4 (dk_at dksX3_goes_7 3 rfl rfl)
theorem dX3_goes_165 : decode cX3_goes 165 = .ok (.iadd, 1) := dk_96 (dk_at dksX3_goes_7 4 rfl rfl)
theorem dX3_goes_166 : decode cX3_goes 166 = .ok (.putfield 160, 3) := dk_181 0 160 (dk_at dksX3_goes_7 5 rfl rfl)
theorem dX3_goes_169 : decode cX3_goes 169 = .ok (.goto (-61), 3) := dk_167 255 195 (dk_at dksX3_goes_7 8 rfl rfl)
theorem dX3_goes_172 : decode cX3_goes 172 = .ok (.aload_n 0, 1) := dk_42 (dk_at dksX3_goes_7 11 rfl rfl)
theorem dX3_goes_173 : decode cX3_goes 173 = .ok (.iconst 1, 1) := dk_4 (dk_at dksX3_goes_7 12 rfl rfl)
theorem dX3_goes_174 : decode cX3_goes 174 = .ok (.putfield 180, 3) := dk_181 0 180 (dk_at dksX3_goes_7 13 rfl rfl)
theorem dX3_goes_177 : decode cX3_goes 177 = .ok (.goto 154, 3) := dk_167 0 154 (dk_at dksX3_goes_7 16 rfl rfl)
theorem dX3_goes_180 : decode cX3_goes 180 = .ok (.iload_n 1, 1) := dk_27 (dk_at dksX3_goes_7 19 rfl rfl)
theorem dX3_goes_181 : decode cX3_goes 181 = .ok (.invokestatic 187, 3) := dk_184 0 187 (dk_at dksX3_goes_7 20 rfl rfl)
theorem dX3_goes_184 : decode cX3_goes 184 = .ok (.ifCond .eq 74, 3) := dk_153 0 74 (dk_at dksX3_goes_8 0 rfl rfl)
theorem dX3_goes_187 : decode cX3_goes 187 = .ok (.aload_n 0, 1) := dk_42 (dk_at dksX3_goes_8 3 rfl rfl)
theorem dX3_goes_188 : decode cX3_goes 188 = .ok (.aload_n 0, 1) := dk_42 (dk_at dksX3_goes_8 4 rfl rfl)
theorem dX3_goes_189 : decode cX3_goes 189 = .ok (.getfield 160, 3) := dk_180 0 160 (dk_at dksX3_goes_8 5 rfl rfl)
theorem dX3_goes_192 : decode cX3_goes 192 = .ok (.invokevirtual 163, 3) := dk_182 0 163 (dk_at dksX3_goes_8 8 rfl rfl)
theorem dX3_goes_195 : decode cX3_goes 195 = .ok (.invokestatic 187, 3) := dk_184 0 187 (dk_at dksX3_goes_8 11 rfl rfl)
theorem dX3_goes_198 : decode cX3_goes 198 = .ok (.ifCond .eq 52, 3) := dk_153 0 52 (dk_at dksX3_goes_8 14 rfl rfl)
theorem dX3_goes_201 : decode cX3_goes 201 = .ok (.aload_n 0, 1) := dk_42 (dk_at dksX3_goes_8 17 rfl rfl)
theorem dX3_goes_202 : decode cX3_goes 202 = .ok (.getfield 160, 3) := dk_180 0 160 (dk_at dksX3_goes_8 18 rfl rfl)
theorem dX3_goes_205 : decode cX3_goes 205 = .ok (.aload_n 0, 1) := dk_42 (dk_at dksX3_goes_8 21 rfl rfl)
theorem dX3_goes_206 : decode cX3_goes 206 = .ok (.getfield 167, 3) := dk_180 0 167 (dk_at dksX3_goes_9 0 rfl rfl)
theorem dX3_goes_209 : decode cX3_goes 209 = .ok (.isub, 1) := dk_100 (dk_at dksX3_goes_9 3 rfl rfl)
theorem dX3_goes_210 : decode cX3_goes 210 = .ok (.iconst 4, 1) := dk_7 (dk_at dksX3_goes_9 4 rfl rfl)
theorem dX3_goes_211 : decode cX3_goes 211 = .ok (.if_icmp .ge 26, 3) := dk_162 0 26 (dk_at dksX3_goes_9 5 rfl rfl)
theorem dX3_goes_214 : decode cX3_goes 214 = .ok (.aload_n 0, 1) := dk_42 (dk_at dksX3_goes_9 8 rfl rfl)
theorem dX3_goes_215 : decode cX3_goes 215 = .ok (.bipush 10, 2) := dk_16 10 (dk_at dksX3_goes_9 9 rfl rfl)
theorem dX3_goes_217 : decode cX3_goes 217 = .ok (.aload_n 0, 1) := dk_42 (dk_at dksX3_goes_9 11 rfl rfl)
theorem dX3_goes_218 : decode cX3_goes 218 = .ok (.getfield 174, 3) := dk_180 0 174 (dk_at dksX3_goes_9 12 rfl rfl)
theorem dX3_goes_221 : decode cX3_goes 221 = .ok (.imul, 1) := dk_104 (dk_at dksX3_goes_9 15 rfl rfl)
theorem dX3_goes_222 : decode cX3_goes 222 = .ok (.aload_n 0, 1) := dk_42 (dk_at dksX3_goes_9 16 rfl rfl)
theorem dX3_goes_223 : decode cX3_goes 223 = .ok (.aload_n 0, 1) := dk_42 (dk_at dksX3_goes_9 17 rfl rfl)
theorem dX3_goes_224 : decode cX3_goes 224 = .ok (.getfield 160, 3) := dk_180 0 160 (dk_at dksX3_goes_9 18 rfl rfl)
theorem dX3_goes_227 : decode cX3_goes 227 = .ok (.invokevirtual 163, 3) := dk_182 0 163 (dk_at dksX3_goes_9 21 rfl rfl)
theorem dX3_goes_230 : decode cX3_goes 230 = .ok (.iadd, 1) := dk_96 (dk_at dksX3_goes_10 0 rfl rfl)
theorem dX3_goes_231 : decode cX3_goes 231 = .ok (.bipush 48, 2) := dk_16 48 (dk_at dksX3_goes_10 1 rfl rfl)
theorem dX3_goes_233 : decode cX3_goes 233 = .ok (.isub, 1) := dk_100 (dk_at dksX3_goes_10 3 rfl rfl)
theorem dX3_goes_234 : decode cX3_goes 234 = .ok (.putfield 174, 3) := dk_181 0 174 (dk_at dksX3_goes_10 4 rfl rfl)
theorem dX3_goes_237 : decode cX3_goes 237 = .ok (.aload_n 0, 1) := dk_42 (dk_at dksX3_goes_10 7 rfl rfl)
theorem dX3_goes_238 : decode cX3_goes 238 = .ok (.dup, 1) := dk_89 (dk_at dksX3_goes_10 8 rfl rfl)
theorem dX3_goes_239 : decode cX3_goes 239 = .ok (.getfield 160, 3) := dk_180 0 160 (dk_at dksX3_goes_10 9 rfl rfl)
theorem dX3_goes_242 : decode cX3_goes 242 = .ok (.iconst 1, 1) := dk_4 (dk_at dksX3_goes_10 12 rfl rfl)
theorem dX3_goes_243 : decode cX3_goes 243 = .ok (.iadd, 1) := dk_96 (dk_at dksX3_goes_10 13 rfl rfl)
theorem dX3_goes_244 : decode cX3_goes 244 = .ok (.putfield 160, 3) := dk_181 0 160 (dk_at dksX3_goes_10 14 rfl rfl)
theorem dX3_goes_247 : decode cX3_goes 247 = .ok (.goto (-60), 3) := dk_167 255 196 (dk_at dksX3_goes_10 17 rfl rfl)
theorem dX3_goes_250 : decode cX3_goes 250 = .ok (.aload_n 0, 1) := dk_42 (dk_at dksX3_goes_10 20 rfl rfl)
theorem dX3_goes_251 : decode cX3_goes 251 = .ok (.iconst 2, 1) := dk_5 (dk_at dksX3_goes_10 21 rfl rfl)
theorem dX3_goes_252 : decode cX3_goes 252 = .ok (.putfield 180, 3) := dk_181 0 180 (dk_at dksX3_goes_11 0 rfl rfl)
theorem dX3_goes_255 : decode cX3_goes 255 = .ok (.goto 76, 3) := dk_167 0 76 (dk_at dksX3_goes_11 3 rfl rfl)
theorem dX3_goes_258 : decode cX3_goes 258 = .ok (.aload_n 0, 1) := dk_42 (dk_at dksX3_goes_11 6 rfl rfl)
theorem dX3_goes_259 : decode cX3_goes 259 = .ok (.dup, 1) := dk_89 (dk_at dksX3_goes_11 7 rfl rfl)
theorem dX3_goes_260 : decode cX3_goes 260 = .ok (.getfield 160, 3) := dk_180 0 160 (dk_at dksX3_goes_11 8 rfl rfl)
theorem dX3_goes_263 : decode cX3_goes 263 = .ok (.iconst 1, 1) := dk_4 (dk_at dksX3_goes_11 11 rfl rfl)
theorem dX3_goes_264 : decode cX3_goes 264 = .ok (.iadd, 1) := dk_96 (dk_at dksX3_goes_11 12 rfl rfl)
theorem dX3_goes_265 : decode cX3_goes 265 = .ok (.putfield 160, 3) := dk_181 0 160 (dk_at dksX3_goes_11 13 rfl rfl)
theorem dX3_goes_268 : decode cX3_goes 268 = .ok (.aload_n 0, 1) := dk_42 (dk_at dksX3_goes_11 16 rfl rfl)
theorem dX3_goes_269 : decode cX3_goes 269 = .ok (.iload_n 1, 1) := dk_27 (dk_at dksX3_goes_11 17 rfl rfl)
theorem dX3_goes_270 : decode cX3_goes 270 = .ok (.bipush 59, 2) := dk_16 59 (dk_at dksX3_goes_11 18 rfl rfl)
theorem dX3_goes_272 : decode cX3_goes 272 = .ok (.if_icmp .eq 51, 3) := dk_159 0 51 (dk_at dksX3_goes_11 20 rfl rfl)
theorem dX3_goes_275 : decode cX3_goes 275 = .ok (.iload_n 1, 1) := dk_27 (dk_at dksX3_goes_11 23 rfl rfl)
theorem dX3_goes_276 : decode cX3_goes 276 = .ok (.bipush 40, 2) := dk_16 40 (dk_at dksX3_goes_12 0 rfl rfl)
theorem dX3_goes_278 : decode cX3_goes 278 = .ok (.if_icmp .eq 45, 3) := dk_159 0 45 (dk_at dksX3_goes_12 2 rfl rfl)
theorem dX3_goes_281 : decode cX3_goes 281 = .ok (.iload_n 1, 1) := dk_27 (dk_at dksX3_goes_12 5 rfl rfl)
theorem dX3_goes_282 : decode cX3_goes 282 = .ok (.bipush 41, 2) := dk_16 41 (dk_at dksX3_goes_12 6 rfl rfl)
theorem dX3_goes_284 : decode cX3_goes 284 = .ok (.if_icmp .eq 39, 3) := dk_159 0 39 (dk_at dksX3_goes_12 8 rfl rfl)
theorem dX3_goes_287 : decode cX3_goes 287 = .ok (.iload_n 1, 1) := dk_27 (dk_at dksX3_goes_12 11 rfl rfl)
theorem dX3_goes_288 : decode cX3_goes 288 = .ok (.bipush 43, 2) := dk_16 43 (dk_at dksX3_goes_12 12 rfl rfl)
theorem dX3_goes_290 : decode cX3_goes 290 = .ok (.if_icmp .eq 33, 3) := dk_159 0 33 (dk_at dksX3_goes_12 14 rfl rfl)
theorem dX3_goes_293 : decode cX3_goes 293 = .ok (.iload_n 1, 1) := dk_27 (dk_at dksX3_goes_12 17 rfl rfl)
theorem dX3_goes_294 : decode cX3_goes 294 = .ok (.bipush 45, 2) := dk_16 45 (dk_at dksX3_goes_12 18 rfl rfl)
theorem dX3_goes_296 : decode cX3_goes 296 = .ok (.if_icmp .eq 27, 3) := dk_159 0 27 (dk_at dksX3_goes_12 20 rfl rfl)
theorem dX3_goes_299 : decode cX3_goes 299 = .ok (.iload_n 1, 1) := dk_27 (dk_at dksX3_goes_12 23 rfl rfl)
theorem dX3_goes_300 : decode cX3_goes 300 = .ok (.bipush 42, 2) := dk_16 42 (dk_at dksX3_goes_13 0 rfl rfl)
theorem dX3_goes_302 : decode cX3_goes 302 = .ok (.if_icmp .eq 21, 3) := dk_159 0 21 (dk_at dksX3_goes_13 2 rfl rfl)
theorem dX3_goes_305 : decode cX3_goes 305 = .ok (.iload_n 1, 1) := dk_27 (dk_at dksX3_goes_13 5 rfl rfl)
theorem dX3_goes_306 : decode cX3_goes 306 = .ok (.bipush 47, 2) := dk_16 47 (dk_at dksX3_goes_13 6 rfl rfl)
theorem dX3_goes_308 : decode cX3_goes 308 = .ok (.if_icmp .eq 15, 3) := dk_159 0 15 (dk_at dksX3_goes_13 8 rfl rfl)
theorem dX3_goes_311 : decode cX3_goes 311 = .ok (.iload_n 1, 1) := dk_27 (dk_at dksX3_goes_13 11 rfl rfl)
theorem dX3_goes_312 : decode cX3_goes 312 = .ok (.bipush 60, 2) := dk_16 60 (dk_at dksX3_goes_13 12 rfl rfl)
theorem dX3_goes_314 : decode cX3_goes 314 = .ok (.if_icmp .eq 9, 3) := dk_159 0 9 (dk_at dksX3_goes_13 14 rfl rfl)
theorem dX3_goes_317 : decode cX3_goes 317 = .ok (.iload_n 1, 1) := dk_27 (dk_at dksX3_goes_13 17 rfl rfl)
theorem dX3_goes_318 : decode cX3_goes 318 = .ok (.bipush 61, 2) := dk_16 61 (dk_at dksX3_goes_13 18 rfl rfl)
theorem dX3_goes_320 : decode cX3_goes 320 = .ok (.if_icmp .ne 7, 3) := dk_160 0 7 (dk_at dksX3_goes_13 20 rfl rfl)
theorem dX3_goes_323 : decode cX3_goes 323 = .ok (.iconst 3, 1) := dk_6 (dk_at dksX3_goes_13 23 rfl rfl)
theorem dX3_goes_324 : decode cX3_goes 324 = .ok (.goto 4, 3) := dk_167 0 4 (dk_at dksX3_goes_14 0 rfl rfl)
theorem dX3_goes_327 : decode cX3_goes 327 = .ok (.iconst 4, 1) := dk_7 (dk_at dksX3_goes_14 3 rfl rfl)
theorem dX3_goes_328 : decode cX3_goes 328 = .ok (.putfield 180, 3) := dk_181 0 180 (dk_at dksX3_goes_14 4 rfl rfl)
theorem dX3_goes_331 : decode cX3_goes 331 = .ok (.aload_n 0, 1) := dk_42 (dk_at dksX3_goes_14 7 rfl rfl)
theorem dX3_goes_332 : decode cX3_goes 332 = .ok (.aload_n 0, 1) := dk_42 (dk_at dksX3_goes_14 8 rfl rfl)
theorem dX3_goes_333 : decode cX3_goes 333 = .ok (.getfield 160, 3) := dk_180 0 160 (dk_at dksX3_goes_14 9 rfl rfl)
theorem dX3_goes_336 : decode cX3_goes 336 = .ok (.aload_n 0, 1) := dk_42 (dk_at dksX3_goes_14 12 rfl rfl)
theorem dX3_goes_337 : decode cX3_goes 337 = .ok (.getfield 167, 3) := dk_180 0 167 (dk_at dksX3_goes_14 13 rfl rfl)
theorem dX3_goes_340 : decode cX3_goes 340 = .ok (.isub, 1) := dk_100 (dk_at dksX3_goes_14 16 rfl rfl)
theorem dX3_goes_341 : decode cX3_goes 341 = .ok (.putfield 190, 3) := dk_181 0 190 (dk_at dksX3_goes_14 17 rfl rfl)
theorem dX3_goes_344 : decode cX3_goes 344 = .ok (.return_, 1) := dk_177 (dk_at dksX3_goes_14 20 rfl rfl)
abbrev cX3_byteAt : ByteArray := prog_14_method_10_code
def yX3_byteAt : MethodName := ⟨RX3, "byteAt", "(I)I"⟩
def dkwX3_byteAt_0 : List UInt8 := [27, 42, 180, 0, 157, 162, 0, 12, 42, 180, 0, 35, 27, 46, 167, 0, 4, 3, 172]
abbrev dktX3_byteAt_0 : List UInt8 := dkwX3_byteAt_0 ++ []
theorem dksX3_byteAt_0 : cX3_byteAt.data.toList.drop 0 = dktX3_byteAt_0 := by decide +kernel
theorem dX3_byteAt_0 : decode cX3_byteAt 0 = .ok (.iload_n 1, 1) := dk_27 (dk_at dksX3_byteAt_0 0 rfl rfl)
theorem dX3_byteAt_1 : decode cX3_byteAt 1 = .ok (.aload_n 0, 1) := dk_42 (dk_at dksX3_byteAt_0 1 rfl rfl)
theorem dX3_byteAt_2 : decode cX3_byteAt 2 = .ok (.getfield 157, 3) := dk_180 0 157 (dk_at dksX3_byteAt_0 2 rfl rfl)
theorem dX3_byteAt_5 : decode cX3_byteAt 5 = .ok (.if_icmp .ge 12, 3) := dk_162 0 12 (dk_at dksX3_byteAt_0 5 rfl rfl)
theorem dX3_byteAt_8 : decode cX3_byteAt 8 = .ok (.aload_n 0, 1) := dk_42 (dk_at dksX3_byteAt_0 8 rfl rfl)
theorem dX3_byteAt_9 : decode cX3_byteAt 9 = .ok (.getfield 35, 3) := dk_180 0 35 (dk_at dksX3_byteAt_0 9 rfl rfl)
theorem dX3_byteAt_12 : decode cX3_byteAt 12 = .ok (.iload_n 1, 1) := dk_27 (dk_at dksX3_byteAt_0 12 rfl rfl)
theorem dX3_byteAt_13 : decode cX3_byteAt 13 = .ok (.iaload, 1) := dk_46 (dk_at dksX3_byteAt_0 13 rfl rfl)
theorem dX3_byteAt_14 : decode cX3_byteAt 14 = .ok (.goto 4, 3) := dk_167 0 4 (dk_at dksX3_byteAt_0 14 rfl rfl)
theorem dX3_byteAt_17 : decode cX3_byteAt 17 = .ok (.iconst 0, 1) := dk_3 (dk_at dksX3_byteAt_0 17 rfl rfl)
theorem dX3_byteAt_18 : decode cX3_byteAt 18 = .ok (.ireturn, 1) := dk_172 (dk_at dksX3_byteAt_0 18 rfl rfl)
abbrev cX3_isLetter : ByteArray := prog_14_method_11_code
def yX3_isLetter : MethodName := ⟨RX3, "isLetter", "(I)Z"⟩
def dkwX3_isLetter_0 : List UInt8 := [26, 16, 97, 161, 0, 13, 26, 16, 122, 163, 0, 7, 4, 167, 0, 4, 3, 172]
abbrev dktX3_isLetter_0 : List UInt8 := dkwX3_isLetter_0 ++ []
theorem dksX3_isLetter_0 : cX3_isLetter.data.toList.drop 0 = dktX3_isLetter_0 := by decide +kernel
theorem dX3_isLetter_0 : decode cX3_isLetter 0 = .ok (.iload_n 0, 1) := dk_26 (dk_at dksX3_isLetter_0 0 rfl rfl)
theorem dX3_isLetter_1 : decode cX3_isLetter 1 = .ok (.bipush 97, 2) := dk_16 97 (dk_at dksX3_isLetter_0 1 rfl rfl)
theorem dX3_isLetter_3 : decode cX3_isLetter 3 = .ok (.if_icmp .lt 13, 3) := dk_161 0 13 (dk_at dksX3_isLetter_0 3 rfl rfl)
theorem dX3_isLetter_6 : decode cX3_isLetter 6 = .ok (.iload_n 0, 1) := dk_26 (dk_at dksX3_isLetter_0 6 rfl rfl)
theorem dX3_isLetter_7 : decode cX3_isLetter 7 = .ok (.bipush 122, 2) := dk_16 122 (dk_at dksX3_isLetter_0 7 rfl rfl)
theorem dX3_isLetter_9 : decode cX3_isLetter 9 = .ok (.if_icmp .gt 7, 3) := dk_163 0 7 (dk_at dksX3_isLetter_0 9 rfl rfl)
theorem dX3_isLetter_12 : decode cX3_isLetter 12 = .ok (.iconst 1, 1) := dk_4 (dk_at dksX3_isLetter_0 12 rfl rfl)
theorem dX3_isLetter_13 : decode cX3_isLetter 13 = .ok (.goto 4, 3) := dk_167 0 4 (dk_at dksX3_isLetter_0 13 rfl rfl)
theorem dX3_isLetter_16 : decode cX3_isLetter 16 = .ok (.iconst 0, 1) := dk_3 (dk_at dksX3_isLetter_0 16 rfl rfl)
theorem dX3_isLetter_17 : decode cX3_isLetter 17 = .ok (.ireturn, 1) := dk_172 (dk_at dksX3_isLetter_0 17 rfl rfl)
abbrev cX3_isDigit : ByteArray := prog_14_method_12_code
def yX3_isDigit : MethodName := ⟨RX3, "isDigit", "(I)Z"⟩
def dkwX3_isDigit_0 : List UInt8 := [26, 16, 48, 161, 0, 13, 26, 16, 57, 163, 0, 7, 4, 167, 0, 4, 3, 172]
abbrev dktX3_isDigit_0 : List UInt8 := dkwX3_isDigit_0 ++ []
theorem dksX3_isDigit_0 : cX3_isDigit.data.toList.drop 0 = dktX3_isDigit_0 := by decide +kernel
theorem dX3_isDigit_0 : decode cX3_isDigit 0 = .ok (.iload_n 0, 1) := dk_26 (dk_at dksX3_isDigit_0 0 rfl rfl)
theorem dX3_isDigit_1 : decode cX3_isDigit 1 = .ok (.bipush 48, 2) := dk_16 48 (dk_at dksX3_isDigit_0 1 rfl rfl)
theorem dX3_isDigit_3 : decode cX3_isDigit 3 = .ok (.if_icmp .lt 13, 3) := dk_161 0 13 (dk_at dksX3_isDigit_0 3 rfl rfl)
theorem dX3_isDigit_6 : decode cX3_isDigit 6 = .ok (.iload_n 0, 1) := dk_26 (dk_at dksX3_isDigit_0 6 rfl rfl)
theorem dX3_isDigit_7 : decode cX3_isDigit 7 = .ok (.bipush 57, 2) := dk_16 57 (dk_at dksX3_isDigit_0 7 rfl rfl)
theorem dX3_isDigit_9 : decode cX3_isDigit 9 = .ok (.if_icmp .gt 7, 3) := dk_163 0 7 (dk_at dksX3_isDigit_0 9 rfl rfl)
theorem dX3_isDigit_12 : decode cX3_isDigit 12 = .ok (.iconst 1, 1) := dk_4 (dk_at dksX3_isDigit_0 12 rfl rfl)
theorem dX3_isDigit_13 : decode cX3_isDigit 13 = .ok (.goto 4, 3) := dk_167 0 4 (dk_at dksX3_isDigit_0 13 rfl rfl)
theorem dX3_isDigit_16 : decode cX3_isDigit 16 = .ok (.iconst 0, 1) := dk_3 (dk_at dksX3_isDigit_0 16 rfl rfl)
theorem dX3_isDigit_17 : decode cX3_isDigit 17 = .ok (.ireturn, 1) := dk_172 (dk_at dksX3_isDigit_0 17 rfl rfl)
abbrev cX3_isGood : ByteArray := prog_14_method_18_code
def yX3_isGood : MethodName := ⟨RX3, "isGood", "()Z"⟩
def dkwX3_isGood_0 : List UInt8 := [42, 180, 0, 203, 154, 0, 7, 4, 167, 0, 4, 3, 172]
abbrev dktX3_isGood_0 : List UInt8 := dkwX3_isGood_0 ++ []
theorem dksX3_isGood_0 : cX3_isGood.data.toList.drop 0 = dktX3_isGood_0 := by decide +kernel
theorem dX3_isGood_0 : decode cX3_isGood 0 = .ok (.aload_n 0, 1) := dk_42 (dk_at dksX3_isGood_0 0 rfl rfl)
theorem dX3_isGood_1 : decode cX3_isGood 1 = .ok (.getfield 203, 3) := dk_180 0 203 (dk_at dksX3_isGood_0 1 rfl rfl)
theorem dX3_isGood_4 : decode cX3_isGood 4 = .ok (.ifCond .ne 7, 3) := dk_154 0 7 (dk_at dksX3_isGood_0 4 rfl rfl)
theorem dX3_isGood_7 : decode cX3_isGood 7 = .ok (.iconst 1, 1) := dk_4 (dk_at dksX3_isGood_0 7 rfl rfl)
theorem dX3_isGood_8 : decode cX3_isGood 8 = .ok (.goto 4, 3) := dk_167 0 4 (dk_at dksX3_isGood_0 8 rfl rfl)
theorem dX3_isGood_11 : decode cX3_isGood 11 = .ok (.iconst 0, 1) := dk_3 (dk_at dksX3_isGood_0 11 rfl rfl)
theorem dX3_isGood_12 : decode cX3_isGood 12 = .ok (.ireturn, 1) := dk_172 (dk_at dksX3_isGood_0 12 rfl rfl)
abbrev cX3_line : ByteArray := prog_14_method_38_code
def yX3_line : MethodName := ⟨RX3, "line", "()V"⟩
def dkwX3_line_10 : List UInt8 := [182, 0, 213, 42, 42, 16, 59, 182, 0, 244, 182, 1, 47, 177]
abbrev dktX3_line_10 : List UInt8 := dkwX3_line_10 ++ []
def dkwX3_line_9 : List UInt8 := [42, 180, 0, 223, 79, 42, 89, 180, 1, 41, 4, 96, 181, 1, 41, 42, 182, 1, 44, 167, 0, 8, 42, 4]
abbrev dktX3_line_9 : List UInt8 := dkwX3_line_9 ++ dktX3_line_10
def dkwX3_line_8 : List UInt8 := [5, 182, 0, 213, 42, 182, 0, 206, 154, 0, 4, 177, 42, 182, 0, 210, 42, 180, 0, 65, 42, 180, 1, 41]
abbrev dktX3_line_8 : List UInt8 := dkwX3_line_8 ++ dktX3_line_9
def dkwX3_line_7 : List UInt8 := [182, 1, 19, 181, 1, 38, 167, 0, 69, 27, 16, 14, 160, 0, 58, 42, 180, 1, 41, 7, 160, 0, 8, 42]
abbrev dktX3_line_7 : List UInt8 := dkwX3_line_7 ++ dktX3_line_8
def dkwX3_line_6 : List UInt8 := [182, 0, 213, 42, 182, 0, 206, 154, 0, 4, 177, 42, 182, 0, 210, 42, 42, 16, 60, 17, 2, 88]
abbrev dktX3_line_6 : List UInt8 := dkwX3_line_6 ++ dktX3_line_7
def dkwX3_line_5 : List UInt8 := [182, 1, 35, 167, 0, 116, 27, 16, 13, 160, 0, 44, 42, 180, 1, 38, 2, 159, 0, 8, 42, 8]
abbrev dktX3_line_5 : List UInt8 := dkwX3_line_5 ++ dktX3_line_6
def dkwX3_line_4 : List UInt8 := [16, 9, 163, 0, 14, 42, 27, 16, 7, 100, 182, 1, 32, 167, 0, 129, 27, 16, 12, 160, 0, 10, 42]
abbrev dktX3_line_4 : List UInt8 := dkwX3_line_4 ++ dktX3_line_5
def dkwX3_line_3 : List UInt8 := [167, 0, 165, 27, 16, 11, 160, 0, 10, 42, 182, 1, 29, 167, 0, 152, 27, 16, 7, 161, 0, 20, 27]
abbrev dktX3_line_3 : List UInt8 := dkwX3_line_3 ++ dktX3_line_4
def dkwX3_line_2 : List UInt8 := [3, 16, 9, 182, 1, 19, 79, 42, 182, 0, 206, 153, 0, 178, 42, 89, 180, 0, 216, 4, 96, 181, 0, 216]
abbrev dktX3_line_2 : List UInt8 := dkwX3_line_2 ++ dktX3_line_3
def dkwX3_line_1 : List UInt8 := [182, 0, 213, 42, 182, 0, 206, 154, 0, 4, 177, 42, 182, 0, 210, 42, 180, 0, 44, 42, 180, 0, 216, 42]
abbrev dktX3_line_1 : List UInt8 := dkwX3_line_1 ++ dktX3_line_2
def dkwX3_line_0 : List UInt8 := [42, 182, 0, 238, 60, 27, 16, 10, 160, 0, 65, 42, 180, 0, 216, 16, 10, 160, 0, 8, 42, 5]
abbrev dktX3_line_0 : List UInt8 := dkwX3_line_0 ++ dktX3_line_1
theorem dksX3_line_0 : cX3_line.data.toList.drop 0 = dktX3_line_0 := by decide +kernel
theorem dksX3_line_1 : cX3_line.data.toList.drop 22 = dktX3_line_1 := dk_seg dksX3_line_0 22 rfl rfl
theorem dksX3_line_2 : cX3_line.data.toList.drop 46 = dktX3_line_2 := dk_seg dksX3_line_1 24 rfl rfl
theorem dksX3_line_3 : cX3_line.data.toList.drop 70 = dktX3_line_3 := dk_seg dksX3_line_2 24 rfl rfl
theorem dksX3_line_4 : cX3_line.data.toList.drop 93 = dktX3_line_4 := dk_seg dksX3_line_3 23 rfl rfl
theorem dksX3_line_5 : cX3_line.data.toList.drop 116 = dktX3_line_5 := dk_seg dksX3_line_4 23 rfl rfl
theorem dksX3_line_6 : cX3_line.data.toList.drop 138 = dktX3_line_6 := dk_seg dksX3_line_5 22 rfl rfl
theorem dksX3_line_7 : cX3_line.data.toList.drop 160 = dktX3_line_7 := dk_seg dksX3_line_6 22 rfl rfl
theorem dksX3_line_8 : cX3_line.data.toList.drop 184 = dktX3_line_8 := dk_seg dksX3_line_7 24 rfl rfl
theorem dksX3_line_9 : cX3_line.data.toList.drop 208 = dktX3_line_9 := dk_seg dksX3_line_8 24 rfl rfl
theorem dksX3_line_10 : cX3_line.data.toList.drop 232 = dktX3_line_10 := dk_seg dksX3_line_9 24 rfl rfl
theorem dX3_line_0 : decode cX3_line 0 = .ok (.aload_n 0, 1) := dk_42 (dk_at dksX3_line_0 0 rfl rfl)
theorem dX3_line_1 : decode cX3_line 1 = .ok (.invokevirtual 238, 3) := dk_182 0 238 (dk_at dksX3_line_0 1 rfl rfl)
theorem dX3_line_4 : decode cX3_line 4 = .ok (.istore_n 1, 1) := dk_60 (dk_at dksX3_line_0 4 rfl rfl)
theorem dX3_line_5 : decode cX3_line 5 = .ok (.iload_n 1, 1) := dk_27 (dk_at dksX3_line_0 5 rfl rfl)
theorem dX3_line_6 : decode cX3_line 6 = .ok (.bipush 10, 2) := dk_16 10 (dk_at dksX3_line_0 6 rfl rfl)
theorem dX3_line_8 : decode cX3_line 8 = .ok (.if_icmp .ne 65, 3) := dk_160 0 65 (dk_at dksX3_line_0 8 rfl rfl)
theorem dX3_line_11 : decode cX3_line 11 = .ok (.aload_n 0, 1) := dk_42 (dk_at dksX3_line_0 11 rfl rfl)
theorem dX3_line_12 : decode cX3_line 12 = .ok (.getfield 216, 3) := dk_180 0 216 (dk_at dksX3_line_0 12 rfl rfl)
theorem dX3_line_15 : decode cX3_line 15 = .ok (.bipush 10, 2) := dk_16 10 (dk_at dksX3_line_0 15 rfl rfl)
theorem dX3_line_17 : decode cX3_line 17 = .ok (.if_icmp .ne 8, 3) := dk_160 0 8 (dk_at dksX3_line_0 17 rfl rfl)
theorem dX3_line_20 : decode cX3_line 20 = .ok (.aload_n 0, 1) := dk_42 (dk_at dksX3_line_0 20 rfl rfl)
theorem dX3_line_21 : decode cX3_line 21 = .ok (.iconst 2, 1) := dk_5 (dk_at dksX3_line_0 21 rfl rfl)
theorem dX3_line_22 : decode cX3_line 22 = .ok (.invokevirtual 213, 3) := dk_182 0 213 (dk_at dksX3_line_1 0 rfl rfl)
theorem dX3_line_25 : decode cX3_line 25 = .ok (.aload_n 0, 1) := dk_42 (dk_at dksX3_line_1 3 rfl rfl)
theorem dX3_line_26 : decode cX3_line 26 = .ok (.invokevirtual 206, 3) := dk_182 0 206 (dk_at dksX3_line_1 4 rfl rfl)
theorem dX3_line_29 : decode cX3_line 29 = .ok (.ifCond .ne 4, 3) := dk_154 0 4 (dk_at dksX3_line_1 7 rfl rfl)
theorem dX3_line_32 : decode cX3_line 32 = .ok (.return_, 1) := dk_177 (dk_at dksX3_line_1 10 rfl rfl)
theorem dX3_line_33 : decode cX3_line 33 = .ok (.aload_n 0, 1) := dk_42 (dk_at dksX3_line_1 11 rfl rfl)
theorem dX3_line_34 : decode cX3_line 34 = .ok (.invokevirtual 210, 3) := dk_182 0 210 (dk_at dksX3_line_1 12 rfl rfl)
theorem dX3_line_37 : decode cX3_line 37 = .ok (.aload_n 0, 1) := dk_42 (dk_at dksX3_line_1 15 rfl rfl)
theorem dX3_line_38 : decode cX3_line 38 = .ok (.getfield 44, 3) := dk_180 0 44 (dk_at dksX3_line_1 16 rfl rfl)
theorem dX3_line_41 : decode cX3_line 41 = .ok (.aload_n 0, 1) := dk_42 (dk_at dksX3_line_1 19 rfl rfl)
theorem dX3_line_42 : decode cX3_line 42 = .ok (.getfield 216, 3) := dk_180 0 216 (dk_at dksX3_line_1 20 rfl rfl)
theorem dX3_line_45 : decode cX3_line 45 = .ok (.aload_n 0, 1) := dk_42 (dk_at dksX3_line_1 23 rfl rfl)
theorem dX3_line_46 : decode cX3_line 46 = .ok (.iconst 0, 1) := dk_3 (dk_at dksX3_line_2 0 rfl rfl)
theorem dX3_line_47 : decode cX3_line 47 = .ok (.bipush 9, 2) := dk_16 9 (dk_at dksX3_line_2 1 rfl rfl)
theorem dX3_line_49 : decode cX3_line 49 = .ok (.invokevirtual 275, 3) := dk_182 1 19 (dk_at dksX3_line_2 3 rfl rfl)
theorem dX3_line_52 : decode cX3_line 52 = .ok (.iastore, 1) := dk_79 (dk_at dksX3_line_2 6 rfl rfl)
theorem dX3_line_53 : decode cX3_line 53 = .ok (.aload_n 0, 1) := dk_42 (dk_at dksX3_line_2 7 rfl rfl)
theorem dX3_line_54 : decode cX3_line 54 = .ok (.invokevirtual 206, 3) := dk_182 0 206 (dk_at dksX3_line_2 8 rfl rfl)
theorem dX3_line_57 : decode cX3_line 57 = .ok (.ifCond .eq 178, 3) := dk_153 0 178 (dk_at dksX3_line_2 11 rfl rfl)
theorem dX3_line_60 : decode cX3_line 60 = .ok (.aload_n 0, 1) := dk_42 (dk_at dksX3_line_2 14 rfl rfl)
theorem dX3_line_61 : decode cX3_line 61 = .ok (.dup, 1) := dk_89 (dk_at dksX3_line_2 15 rfl rfl)
theorem dX3_line_62 : decode cX3_line 62 = .ok (.getfield 216, 3) := dk_180 0 216 (dk_at dksX3_line_2 16 rfl rfl)
theorem dX3_line_65 : decode cX3_line 65 = .ok (.iconst 1, 1) := dk_4 (dk_at dksX3_line_2 19 rfl rfl)
theorem dX3_line_66 : decode cX3_line 66 = .ok (.iadd, 1) := dk_96 (dk_at dksX3_line_2 20 rfl rfl)
theorem dX3_line_67 : decode cX3_line 67 = .ok (.putfield 216, 3) := dk_181 0 216 (dk_at dksX3_line_2 21 rfl rfl)
theorem dX3_line_70 : decode cX3_line 70 = .ok (.goto 165, 3) := dk_167 0 165 (dk_at dksX3_line_3 0 rfl rfl)
theorem dX3_line_73 : decode cX3_line 73 = .ok (.iload_n 1, 1) := dk_27 (dk_at dksX3_line_3 3 rfl rfl)
theorem dX3_line_74 : decode cX3_line 74 = .ok (.bipush 11, 2) := dk_16 11 (dk_at dksX3_line_3 4 rfl rfl)
theorem dX3_line_76 : decode cX3_line 76 = .ok (.if_icmp .ne 10, 3) := dk_160 0 10 (dk_at dksX3_line_3 6 rfl rfl)
theorem dX3_line_79 : decode cX3_line 79 = .ok (.aload_n 0, 1) := dk_42 (dk_at dksX3_line_3 9 rfl rfl)
theorem dX3_line_80 : decode cX3_line 80 = .ok (.invokevirtual 285, 3) := dk_182 1 29 (dk_at dksX3_line_3 10 rfl rfl)
theorem dX3_line_83 : decode cX3_line 83 = .ok (.goto 152, 3) := dk_167 0 152 (dk_at dksX3_line_3 13 rfl rfl)
theorem dX3_line_86 : decode cX3_line 86 = .ok (.iload_n 1, 1) := dk_27 (dk_at dksX3_line_3 16 rfl rfl)
theorem dX3_line_87 : decode cX3_line 87 = .ok (.bipush 7, 2) := dk_16 7 (dk_at dksX3_line_3 17 rfl rfl)
theorem dX3_line_89 : decode cX3_line 89 = .ok (.if_icmp .lt 20, 3) := dk_161 0 20 (dk_at dksX3_line_3 19 rfl rfl)
theorem dX3_line_92 : decode cX3_line 92 = .ok (.iload_n 1, 1) := dk_27 (dk_at dksX3_line_3 22 rfl rfl)
theorem dX3_line_93 : decode cX3_line 93 = .ok (.bipush 9, 2) := dk_16 9 (dk_at dksX3_line_4 0 rfl rfl)
theorem dX3_line_95 : decode cX3_line 95 = .ok (.if_icmp .gt 14, 3) := dk_163 0 14 (dk_at dksX3_line_4 2 rfl rfl)
theorem dX3_line_98 : decode cX3_line 98 = .ok (.aload_n 0, 1) := dk_42 (dk_at dksX3_line_4 5 rfl rfl)
theorem dX3_line_99 : decode cX3_line 99 = .ok (.iload_n 1, 1) := dk_27 (dk_at dksX3_line_4 6 rfl rfl)
theorem dX3_line_100 : decode cX3_line 100 = .ok (.bipush 7, 2) := dk_16 7 (dk_at dksX3_line_4 7 rfl rfl)
theorem dX3_line_102 : decode cX3_line 102 = .ok (.isub, 1) := dk_100 (dk_at dksX3_line_4 9 rfl rfl)
theorem dX3_line_103 : decode cX3_line 103 = .ok (.invokevirtual 288, 3) := dk_182 1 32 (dk_at dksX3_line_4 10 rfl rfl)
theorem dX3_line_106 : decode cX3_line 106 = .ok (.goto 129, 3) := dk_167 0 129 (dk_at dksX3_line_4 13 rfl rfl)
theorem dX3_line_109 : decode cX3_line 109 = .ok (.iload_n 1, 1) := dk_27 (dk_at dksX3_line_4 16 rfl rfl)
theorem dX3_line_110 : decode cX3_line 110 = .ok (.bipush 12, 2) := dk_16 12 (dk_at dksX3_line_4 17 rfl rfl)
theorem dX3_line_112 : decode cX3_line 112 = .ok (.if_icmp .ne 10, 3) := dk_160 0 10 (dk_at dksX3_line_4 19 rfl rfl)
theorem dX3_line_115 : decode cX3_line 115 = .ok (.aload_n 0, 1) := dk_42 (dk_at dksX3_line_4 22 rfl rfl)
theorem dX3_line_116 : decode cX3_line 116 = .ok (.invokevirtual 291, 3) := dk_182 1 35 (dk_at dksX3_line_5 0 rfl rfl)
theorem dX3_line_119 : decode cX3_line 119 = .ok (.goto 116, 3) := dk_167 0 116 (dk_at dksX3_line_5 3 rfl rfl)
theorem dX3_line_122 : decode cX3_line 122 = .ok (.iload_n 1, 1) := dk_27 (dk_at dksX3_line_5 6 rfl rfl)
theorem dX3_line_123 : decode cX3_line 123 = .ok (.bipush 13, 2) := dk_16 13 (dk_at dksX3_line_5 7 rfl rfl)
theorem dX3_line_125 : decode cX3_line 125 = .ok (.if_icmp .ne 44, 3) := dk_160 0 44 (dk_at dksX3_line_5 9 rfl rfl)
theorem dX3_line_128 : decode cX3_line 128 = .ok (.aload_n 0, 1) := dk_42 (dk_at dksX3_line_5 12 rfl rfl)
theorem dX3_line_129 : decode cX3_line 129 = .ok (.getfield 294, 3) := dk_180 1 38 (dk_at dksX3_line_5 13 rfl rfl)
theorem dX3_line_132 : decode cX3_line 132 = .ok (.iconst (-1), 1) := dk_2 (dk_at dksX3_line_5 16 rfl rfl)
theorem dX3_line_133 : decode cX3_line 133 = .ok (.if_icmp .eq 8, 3) := dk_159 0 8 (dk_at dksX3_line_5 17 rfl rfl)
theorem dX3_line_136 : decode cX3_line 136 = .ok (.aload_n 0, 1) := dk_42 (dk_at dksX3_line_5 20 rfl rfl)
theorem dX3_line_137 : decode cX3_line 137 = .ok (.iconst 5, 1) := dk_8 (dk_at dksX3_line_5 21 rfl rfl)
theorem dX3_line_138 : decode cX3_line 138 = .ok (.invokevirtual 213, 3) := dk_182 0 213 (dk_at dksX3_line_6 0 rfl rfl)
theorem dX3_line_141 : decode cX3_line 141 = .ok (.aload_n 0, 1) := dk_42 (dk_at dksX3_line_6 3 rfl rfl)
theorem dX3_line_142 : decode cX3_line 142 = .ok (.invokevirtual 206, 3) := dk_182 0 206 (dk_at dksX3_line_6 4 rfl rfl)
theorem dX3_line_145 : decode cX3_line 145 = .ok (.ifCond .ne 4, 3) := dk_154 0 4 (dk_at dksX3_line_6 7 rfl rfl)
theorem dX3_line_148 : decode cX3_line 148 = .ok (.return_, 1) := dk_177 (dk_at dksX3_line_6 10 rfl rfl)
theorem dX3_line_149 : decode cX3_line 149 = .ok (.aload_n 0, 1) := dk_42 (dk_at dksX3_line_6 11 rfl rfl)
theorem dX3_line_150 : decode cX3_line 150 = .ok (.invokevirtual 210, 3) := dk_182 0 210 (dk_at dksX3_line_6 12 rfl rfl)
theorem dX3_line_153 : decode cX3_line 153 = .ok (.aload_n 0, 1) := dk_42 (dk_at dksX3_line_6 15 rfl rfl)
theorem dX3_line_154 : decode cX3_line 154 = .ok (.aload_n 0, 1) := dk_42 (dk_at dksX3_line_6 16 rfl rfl)
theorem dX3_line_155 : decode cX3_line 155 = .ok (.bipush 60, 2) := dk_16 60 (dk_at dksX3_line_6 17 rfl rfl)
theorem dX3_line_157 : decode cX3_line 157 = .ok (.sipush 600, 3) := dk_17 2 88 (dk_at dksX3_line_6 19 rfl rfl)
theorem dX3_line_160 : decode cX3_line 160 = .ok (.invokevirtual 275, 3) := dk_182 1 19 (dk_at dksX3_line_7 0 rfl rfl)
theorem dX3_line_163 : decode cX3_line 163 = .ok (.putfield 294, 3) := dk_181 1 38 (dk_at dksX3_line_7 3 rfl rfl)
theorem dX3_line_166 : decode cX3_line 166 = .ok (.goto 69, 3) := dk_167 0 69 (dk_at dksX3_line_7 6 rfl rfl)
theorem dX3_line_169 : decode cX3_line 169 = .ok (.iload_n 1, 1) := dk_27 (dk_at dksX3_line_7 9 rfl rfl)
theorem dX3_line_170 : decode cX3_line 170 = .ok (.bipush 14, 2) := dk_16 14 (dk_at dksX3_line_7 10 rfl rfl)
theorem dX3_line_172 : decode cX3_line 172 = .ok (.if_icmp .ne 58, 3) := dk_160 0 58 (dk_at dksX3_line_7 12 rfl rfl)
theorem dX3_line_175 : decode cX3_line 175 = .ok (.aload_n 0, 1) := dk_42 (dk_at dksX3_line_7 15 rfl rfl)
theorem dX3_line_176 : decode cX3_line 176 = .ok (.getfield 297, 3) := dk_180 1 41 (dk_at dksX3_line_7 16 rfl rfl)
theorem dX3_line_179 : decode cX3_line 179 = .ok (.iconst 4, 1) := dk_7 (dk_at dksX3_line_7 19 rfl rfl)
theorem dX3_line_180 : decode cX3_line 180 = .ok (.if_icmp .ne 8, 3) := dk_160 0 8 (dk_at dksX3_line_7 20 rfl rfl)
theorem dX3_line_183 : decode cX3_line 183 = .ok (.aload_n 0, 1) := dk_42 (dk_at dksX3_line_7 23 rfl rfl)
theorem dX3_line_184 : decode cX3_line 184 = .ok (.iconst 2, 1) := dk_5 (dk_at dksX3_line_8 0 rfl rfl)
theorem dX3_line_185 : decode cX3_line 185 = .ok (.invokevirtual 213, 3) := dk_182 0 213 (dk_at dksX3_line_8 1 rfl rfl)
theorem dX3_line_188 : decode cX3_line 188 = .ok (.aload_n 0, 1) := dk_42 (dk_at dksX3_line_8 4 rfl rfl)
theorem dX3_line_189 : decode cX3_line 189 = .ok (.invokevirtual 206, 3) := dk_182 0 206 (dk_at dksX3_line_8 5 rfl rfl)
theorem dX3_line_192 : decode cX3_line 192 = .ok (.ifCond .ne 4, 3) := dk_154 0 4 (dk_at dksX3_line_8 8 rfl rfl)
theorem dX3_line_195 : decode cX3_line 195 = .ok (.return_, 1) := dk_177 (dk_at dksX3_line_8 11 rfl rfl)
theorem dX3_line_196 : decode cX3_line 196 = .ok (.aload_n 0, 1) := dk_42 (dk_at dksX3_line_8 12 rfl rfl)
theorem dX3_line_197 : decode cX3_line 197 = .ok (.invokevirtual 210, 3) := dk_182 0 210 (dk_at dksX3_line_8 13 rfl rfl)
theorem dX3_line_200 : decode cX3_line 200 = .ok (.aload_n 0, 1) := dk_42 (dk_at dksX3_line_8 16 rfl rfl)
theorem dX3_line_201 : decode cX3_line 201 = .ok (.getfield 65, 3) := dk_180 0 65 (dk_at dksX3_line_8 17 rfl rfl)
theorem dX3_line_204 : decode cX3_line 204 = .ok (.aload_n 0, 1) := dk_42 (dk_at dksX3_line_8 20 rfl rfl)
theorem dX3_line_205 : decode cX3_line 205 = .ok (.getfield 297, 3) := dk_180 1 41 (dk_at dksX3_line_8 21 rfl rfl)
theorem dX3_line_208 : decode cX3_line 208 = .ok (.aload_n 0, 1) := dk_42 (dk_at dksX3_line_9 0 rfl rfl)
theorem dX3_line_209 : decode cX3_line 209 = .ok (.getfield 223, 3) := dk_180 0 223 (dk_at dksX3_line_9 1 rfl rfl)
theorem dX3_line_212 : decode cX3_line 212 = .ok (.iastore, 1) := dk_79 (dk_at dksX3_line_9 4 rfl rfl)
theorem dX3_line_213 : decode cX3_line 213 = .ok (.aload_n 0, 1) := dk_42 (dk_at dksX3_line_9 5 rfl rfl)
theorem dX3_line_214 : decode cX3_line 214 = .ok (.dup, 1) := dk_89 (dk_at dksX3_line_9 6 rfl rfl)
theorem dX3_line_215 : decode cX3_line 215 = .ok (.getfield 297, 3) := dk_180 1 41 (dk_at dksX3_line_9 7 rfl rfl)
theorem dX3_line_218 : decode cX3_line 218 = .ok (.iconst 1, 1) := dk_4 (dk_at dksX3_line_9 10 rfl rfl)
theorem dX3_line_219 : decode cX3_line 219 = .ok (.iadd, 1) := dk_96 (dk_at dksX3_line_9 11 rfl rfl)
theorem dX3_line_220 : decode cX3_line 220 = .ok (.putfield 297, 3) := dk_181 1 41 (dk_at dksX3_line_9 12 rfl rfl)
theorem dX3_line_223 : decode cX3_line 223 = .ok (.aload_n 0, 1) := dk_42 (dk_at dksX3_line_9 15 rfl rfl)
theorem dX3_line_224 : decode cX3_line 224 = .ok (.invokevirtual 300, 3) := dk_182 1 44 (dk_at dksX3_line_9 16 rfl rfl)
theorem dX3_line_227 : decode cX3_line 227 = .ok (.goto 8, 3) := dk_167 0 8 (dk_at dksX3_line_9 19 rfl rfl)
theorem dX3_line_230 : decode cX3_line 230 = .ok (.aload_n 0, 1) := dk_42 (dk_at dksX3_line_9 22 rfl rfl)
theorem dX3_line_231 : decode cX3_line 231 = .ok (.iconst 1, 1) := dk_4 (dk_at dksX3_line_9 23 rfl rfl)
theorem dX3_line_232 : decode cX3_line 232 = .ok (.invokevirtual 213, 3) := dk_182 0 213 (dk_at dksX3_line_10 0 rfl rfl)
theorem dX3_line_235 : decode cX3_line 235 = .ok (.aload_n 0, 1) := dk_42 (dk_at dksX3_line_10 3 rfl rfl)
theorem dX3_line_236 : decode cX3_line 236 = .ok (.aload_n 0, 1) := dk_42 (dk_at dksX3_line_10 4 rfl rfl)
theorem dX3_line_237 : decode cX3_line 237 = .ok (.bipush 59, 2) := dk_16 59 (dk_at dksX3_line_10 5 rfl rfl)
theorem dX3_line_239 : decode cX3_line 239 = .ok (.invokevirtual 244, 3) := dk_182 0 244 (dk_at dksX3_line_10 7 rfl rfl)
theorem dX3_line_242 : decode cX3_line 242 = .ok (.invokevirtual 303, 3) := dk_182 1 47 (dk_at dksX3_line_10 10 rfl rfl)
theorem dX3_line_245 : decode cX3_line 245 = .ok (.return_, 1) := dk_177 (dk_at dksX3_line_10 13 rfl rfl)
abbrev cX3_knownWord : ByteArray := prog_14_method_16_code
def yX3_knownWord : MethodName := ⟨RX3, "knownWord", "()I"⟩
def dkwX3_knownWord_2 : List UInt8 := [172]
abbrev dktX3_knownWord_2 : List UInt8 := dkwX3_knownWord_2 ++ []
def dkwX3_knownWord_1 : List UInt8 := [162, 0, 23, 27, 184, 0, 199, 42, 180, 0, 170, 148, 154, 0, 5, 27, 172, 132, 1, 1, 167, 255, 233, 2]
abbrev dktX3_knownWord_1 : List UInt8 := dkwX3_knownWord_1 ++ dktX3_knownWord_2
def dkwX3_knownWord_0 : List UInt8 := [42, 180, 0, 180, 4, 160, 0, 12, 42, 180, 0, 190, 16, 6, 164, 0, 5, 2, 172, 3, 60, 27, 16, 18]
abbrev dktX3_knownWord_0 : List UInt8 := dkwX3_knownWord_0 ++ dktX3_knownWord_1
theorem dksX3_knownWord_0 : cX3_knownWord.data.toList.drop 0 = dktX3_knownWord_0 := by decide +kernel
theorem dksX3_knownWord_1 : cX3_knownWord.data.toList.drop 24 = dktX3_knownWord_1 := dk_seg dksX3_knownWord_0 24 rfl rfl
theorem dksX3_knownWord_2 : cX3_knownWord.data.toList.drop 48 = dktX3_knownWord_2 := dk_seg dksX3_knownWord_1 24 rfl rfl
theorem dX3_knownWord_0 : decode cX3_knownWord 0 = .ok (.aload_n 0, 1) := dk_42 (dk_at dksX3_knownWord_0 0 rfl rfl)
theorem dX3_knownWord_1 : decode cX3_knownWord 1 = .ok (.getfield 180, 3) := dk_180 0 180 (dk_at dksX3_knownWord_0 1 rfl rfl)
theorem dX3_knownWord_4 : decode cX3_knownWord 4 = .ok (.iconst 1, 1) := dk_4 (dk_at dksX3_knownWord_0 4 rfl rfl)
theorem dX3_knownWord_5 : decode cX3_knownWord 5 = .ok (.if_icmp .ne 12, 3) := dk_160 0 12 (dk_at dksX3_knownWord_0 5 rfl rfl)
theorem dX3_knownWord_8 : decode cX3_knownWord 8 = .ok (.aload_n 0, 1) := dk_42 (dk_at dksX3_knownWord_0 8 rfl rfl)
theorem dX3_knownWord_9 : decode cX3_knownWord 9 = .ok (.getfield 190, 3) := dk_180 0 190 (dk_at dksX3_knownWord_0 9 rfl rfl)
theorem dX3_knownWord_12 : decode cX3_knownWord 12 = .ok (.bipush 6, 2) := dk_16 6 (dk_at dksX3_knownWord_0 12 rfl rfl)
theorem dX3_knownWord_14 : decode cX3_knownWord 14 = .ok (.if_icmp .le 5, 3) := dk_164 0 5 (dk_at dksX3_knownWord_0 14 rfl rfl)
theorem dX3_knownWord_17 : decode cX3_knownWord 17 = .ok (.iconst (-1), 1) := dk_2 (dk_at dksX3_knownWord_0 17 rfl rfl)
theorem dX3_knownWord_18 : decode cX3_knownWord 18 = .ok (.ireturn, 1) := dk_172 (dk_at dksX3_knownWord_0 18 rfl rfl)
theorem dX3_knownWord_19 : decode cX3_knownWord 19 = .ok (.iconst 0, 1) := dk_3 (dk_at dksX3_knownWord_0 19 rfl rfl)
theorem dX3_knownWord_20 : decode cX3_knownWord 20 = .ok (.istore_n 1, 1) := dk_60 (dk_at dksX3_knownWord_0 20 rfl rfl)
theorem dX3_knownWord_21 : decode cX3_knownWord 21 = .ok (.iload_n 1, 1) := dk_27 (dk_at dksX3_knownWord_0 21 rfl rfl)
theorem dX3_knownWord_22 : decode cX3_knownWord 22 = .ok (.bipush 18, 2) := dk_16 18 (dk_at dksX3_knownWord_0 22 rfl rfl)
theorem dX3_knownWord_24 : decode cX3_knownWord 24 = .ok (.if_icmp .ge 23, 3) := dk_162 0 23 (dk_at dksX3_knownWord_1 0 rfl rfl)
theorem dX3_knownWord_27 : decode cX3_knownWord 27 = .ok (.iload_n 1, 1) := dk_27 (dk_at dksX3_knownWord_1 3 rfl rfl)
theorem dX3_knownWord_28 : decode cX3_knownWord 28 = .ok (.invokestatic 199, 3) := dk_184 0 199 (dk_at dksX3_knownWord_1 4 rfl rfl)
theorem dX3_knownWord_31 : decode cX3_knownWord 31 = .ok (.aload_n 0, 1) := dk_42 (dk_at dksX3_knownWord_1 7 rfl rfl)
theorem dX3_knownWord_32 : decode cX3_knownWord 32 = .ok (.getfield 170, 3) := dk_180 0 170 (dk_at dksX3_knownWord_1 8 rfl rfl)
theorem dX3_knownWord_35 : decode cX3_knownWord 35 = .ok (.lcmp, 1) := dk_148 (dk_at dksX3_knownWord_1 11 rfl rfl)
theorem dX3_knownWord_36 : decode cX3_knownWord 36 = .ok (.ifCond .ne 5, 3) := dk_154 0 5 (dk_at dksX3_knownWord_1 12 rfl rfl)
theorem dX3_knownWord_39 : decode cX3_knownWord 39 = .ok (.iload_n 1, 1) := dk_27 (dk_at dksX3_knownWord_1 15 rfl rfl)
theorem dX3_knownWord_40 : decode cX3_knownWord 40 = .ok (.ireturn, 1) := dk_172 (dk_at dksX3_knownWord_1 16 rfl rfl)
theorem dX3_knownWord_41 : decode cX3_knownWord 41 = .ok (.iinc 1 1, 3) := dk_132 1 1 (dk_at dksX3_knownWord_1 17 rfl rfl)
theorem dX3_knownWord_44 : decode cX3_knownWord 44 = .ok (.goto (-23), 3) := dk_167 255 233 (dk_at dksX3_knownWord_1 20 rfl rfl)
theorem dX3_knownWord_47 : decode cX3_knownWord 47 = .ok (.iconst (-1), 1) := dk_2 (dk_at dksX3_knownWord_1 23 rfl rfl)
theorem dX3_knownWord_48 : decode cX3_knownWord 48 = .ok (.ireturn, 1) := dk_172 (dk_at dksX3_knownWord_2 0 rfl rfl)
abbrev cX3_letters : ByteArray := prog_14_method_15_code
def yX3_letters : MethodName := ⟨RX3, "letters", "(I)J"⟩
def dkwX3_letters_12 : List UInt8 := [3, 3, 184, 0, 195, 173, 16, 110, 16, 111, 16, 116, 3, 3, 3, 184, 0, 195, 173]
abbrev dktX3_letters_12 : List UInt8 := dkwX3_letters_12 ++ []
def dkwX3_letters_11 : List UInt8 := [3, 184, 0, 195, 173, 16, 97, 16, 110, 16, 100, 3, 3, 3, 184, 0, 195, 173, 16, 111, 16, 114, 3, 3]
abbrev dktX3_letters_11 : List UInt8 := dkwX3_letters_11 ++ dktX3_letters_12
def dkwX3_letters_10 : List UInt8 := [16, 100, 16, 97, 16, 119, 16, 110, 3, 3, 184, 0, 195, 173, 16, 104, 16, 117, 16, 110, 16, 116, 16, 115]
abbrev dktX3_letters_10 : List UInt8 := dkwX3_letters_10 ++ dktX3_letters_11
def dkwX3_letters_9 : List UInt8 := [16, 104, 16, 116, 184, 0, 195, 173, 16, 114, 16, 105, 16, 100, 16, 101, 16, 114, 3, 184, 0, 195, 173]
abbrev dktX3_letters_9 : List UInt8 := dkwX3_letters_9 ++ dktX3_letters_10
def dkwX3_letters_8 : List UInt8 := [173, 16, 114, 16, 111, 16, 111, 16, 102, 3, 3, 184, 0, 195, 173, 16, 102, 16, 108, 16, 105, 16, 103]
abbrev dktX3_letters_8 : List UInt8 := dkwX3_letters_8 ++ dktX3_letters_9
def dkwX3_letters_7 : List UInt8 := [16, 114, 16, 110, 3, 3, 184, 0, 195, 173, 16, 119, 16, 104, 16, 105, 16, 116, 16, 101, 3, 184, 0, 195]
abbrev dktX3_letters_7 : List UInt8 := dkwX3_letters_7 ++ dktX3_letters_8
def dkwX3_letters_6 : List UInt8 := [184, 0, 195, 173, 16, 116, 16, 97, 16, 119, 16, 110, 16, 121, 3, 184, 0, 195, 173, 16, 98, 16, 97]
abbrev dktX3_letters_6 : List UInt8 := dkwX3_letters_6 ++ dktX3_letters_7
def dkwX3_letters_5 : List UInt8 := [16, 119, 16, 101, 16, 116, 3, 3, 3, 184, 0, 195, 173, 16, 104, 16, 111, 16, 117, 16, 114, 3, 3]
abbrev dktX3_letters_5 : List UInt8 := dkwX3_letters_5 ++ dktX3_letters_6
def dkwX3_letters_4 : List UInt8 := [16, 111, 16, 112, 3, 3, 184, 0, 195, 173, 16, 109, 16, 111, 16, 111, 16, 110, 3, 3, 184, 0, 195, 173]
abbrev dktX3_letters_4 : List UInt8 := dkwX3_letters_4 ++ dktX3_letters_5
def dkwX3_letters_3 : List UInt8 := [3, 184, 0, 195, 173, 16, 107, 16, 105, 16, 110, 16, 100, 3, 3, 184, 0, 195, 173, 16, 115, 16, 116]
abbrev dktX3_letters_3 : List UInt8 := dkwX3_letters_3 ++ dktX3_letters_4
def dkwX3_letters_2 : List UInt8 := [16, 109, 16, 105, 16, 99, 16, 101, 3, 3, 184, 0, 195, 173, 16, 103, 16, 114, 16, 97, 16, 105, 16, 110]
abbrev dktX3_letters_2 : List UInt8 := dkwX3_letters_2 ++ dktX3_letters_3
def dkwX3_letters_1 : List UInt8 := [170, 0, 0, 0, 0, 1, 68, 0, 0, 0, 0, 0, 0, 0, 16, 0, 0, 0, 83, 0, 0, 0, 97, 0, 0, 0, 112, 0, 0, 0, 126, 0, 0, 0, 140, 0, 0, 0, 154, 0, 0, 0, 167, 0, 0, 0, 181, 0, 0, 0, 196, 0, 0, 0, 210, 0, 0, 0, 225, 0, 0, 0, 239, 0, 0, 0, 255, 0, 0, 1, 14, 0, 0, 1, 28, 0, 0, 1, 43, 0, 0, 1, 56]
abbrev dktX3_letters_1 : List UInt8 := dkwX3_letters_1 ++ dktX3_letters_2
def dkwX3_letters_0 : List UInt8 := [26]
abbrev dktX3_letters_0 : List UInt8 := dkwX3_letters_0 ++ dktX3_letters_1
theorem dksX3_letters_0 : cX3_letters.data.toList.drop 0 = dktX3_letters_0 := by decide +kernel
theorem dksX3_letters_1 : cX3_letters.data.toList.drop 1 = dktX3_letters_1 := dk_seg dksX3_letters_0 1 rfl rfl
theorem dksX3_letters_2 : cX3_letters.data.toList.drop 84 = dktX3_letters_2 := dk_seg dksX3_letters_1 83 rfl rfl
theorem dksX3_letters_3 : cX3_letters.data.toList.drop 108 = dktX3_letters_3 := dk_seg dksX3_letters_2 24 rfl rfl
theorem dksX3_letters_4 : cX3_letters.data.toList.drop 131 = dktX3_letters_4 := dk_seg dksX3_letters_3 23 rfl rfl
theorem dksX3_letters_5 : cX3_letters.data.toList.drop 155 = dktX3_letters_5 := dk_seg dksX3_letters_4 24 rfl rfl
theorem dksX3_letters_6 : cX3_letters.data.toList.drop 178 = dktX3_letters_6 := dk_seg dksX3_letters_5 23 rfl rfl
theorem dksX3_letters_7 : cX3_letters.data.toList.drop 201 = dktX3_letters_7 := dk_seg dksX3_letters_6 23 rfl rfl
theorem dksX3_letters_8 : cX3_letters.data.toList.drop 225 = dktX3_letters_8 := dk_seg dksX3_letters_7 24 rfl rfl
theorem dksX3_letters_9 : cX3_letters.data.toList.drop 248 = dktX3_letters_9 := dk_seg dksX3_letters_8 23 rfl rfl
theorem dksX3_letters_10 : cX3_letters.data.toList.drop 271 = dktX3_letters_10 := dk_seg dksX3_letters_9 23 rfl rfl
theorem dksX3_letters_11 : cX3_letters.data.toList.drop 295 = dktX3_letters_11 := dk_seg dksX3_letters_10 24 rfl rfl
theorem dksX3_letters_12 : cX3_letters.data.toList.drop 319 = dktX3_letters_12 := dk_seg dksX3_letters_11 24 rfl rfl
theorem dX3_letters_0 : decode cX3_letters 0 = .ok (.iload_n 0, 1) := dk_26 (dk_at dksX3_letters_0 0 rfl rfl)
theorem dX3_letters_1 : decode cX3_letters 1 = .ok (.tableswitch 324 0 16 #[83, 97, 112, 126, 140, 154, 167, 181, 196, 210, 225, 239, 255, 270, 284, 299, 312], 83) := by decide +kernel
theorem dX3_letters_84 : decode cX3_letters 84 = .ok (.bipush 109, 2) := dk_16 109 (dk_at dksX3_letters_2 0 rfl rfl)
theorem dX3_letters_86 : decode cX3_letters 86 = .ok (.bipush 105, 2) := dk_16 105 (dk_at dksX3_letters_2 2 rfl rfl)
theorem dX3_letters_88 : decode cX3_letters 88 = .ok (.bipush 99, 2) := dk_16 99 (dk_at dksX3_letters_2 4 rfl rfl)
theorem dX3_letters_90 : decode cX3_letters 90 = .ok (.bipush 101, 2) := dk_16 101 (dk_at dksX3_letters_2 6 rfl rfl)
theorem dX3_letters_92 : decode cX3_letters 92 = .ok (.iconst 0, 1) := dk_3 (dk_at dksX3_letters_2 8 rfl rfl)
theorem dX3_letters_93 : decode cX3_letters 93 = .ok (.iconst 0, 1) := dk_3 (dk_at dksX3_letters_2 9 rfl rfl)
theorem dX3_letters_94 : decode cX3_letters 94 = .ok (.invokestatic 195, 3) := dk_184 0 195 (dk_at dksX3_letters_2 10 rfl rfl)
theorem dX3_letters_97 : decode cX3_letters 97 = .ok (.lreturn, 1) := dk_173 (dk_at dksX3_letters_2 13 rfl rfl)
theorem dX3_letters_98 : decode cX3_letters 98 = .ok (.bipush 103, 2) := dk_16 103 (dk_at dksX3_letters_2 14 rfl rfl)
theorem dX3_letters_100 : decode cX3_letters 100 = .ok (.bipush 114, 2) := dk_16 114 (dk_at dksX3_letters_2 16 rfl rfl)
theorem dX3_letters_102 : decode cX3_letters 102 = .ok (.bipush 97, 2) := dk_16 97 (dk_at dksX3_letters_2 18 rfl rfl)
theorem dX3_letters_104 : decode cX3_letters 104 = .ok (.bipush 105, 2) := dk_16 105 (dk_at dksX3_letters_2 20 rfl rfl)
theorem dX3_letters_106 : decode cX3_letters 106 = .ok (.bipush 110, 2) := dk_16 110 (dk_at dksX3_letters_2 22 rfl rfl)
theorem dX3_letters_108 : decode cX3_letters 108 = .ok (.iconst 0, 1) := dk_3 (dk_at dksX3_letters_3 0 rfl rfl)
theorem dX3_letters_109 : decode cX3_letters 109 = .ok (.invokestatic 195, 3) := dk_184 0 195 (dk_at dksX3_letters_3 1 rfl rfl)
theorem dX3_letters_112 : decode cX3_letters 112 = .ok (.lreturn, 1) := dk_173 (dk_at dksX3_letters_3 4 rfl rfl)
theorem dX3_letters_113 : decode cX3_letters 113 = .ok (.bipush 107, 2) := dk_16 107 (dk_at dksX3_letters_3 5 rfl rfl)
theorem dX3_letters_115 : decode cX3_letters 115 = .ok (.bipush 105, 2) := dk_16 105 (dk_at dksX3_letters_3 7 rfl rfl)
theorem dX3_letters_117 : decode cX3_letters 117 = .ok (.bipush 110, 2) := dk_16 110 (dk_at dksX3_letters_3 9 rfl rfl)
theorem dX3_letters_119 : decode cX3_letters 119 = .ok (.bipush 100, 2) := dk_16 100 (dk_at dksX3_letters_3 11 rfl rfl)
theorem dX3_letters_121 : decode cX3_letters 121 = .ok (.iconst 0, 1) := dk_3 (dk_at dksX3_letters_3 13 rfl rfl)
theorem dX3_letters_122 : decode cX3_letters 122 = .ok (.iconst 0, 1) := dk_3 (dk_at dksX3_letters_3 14 rfl rfl)
theorem dX3_letters_123 : decode cX3_letters 123 = .ok (.invokestatic 195, 3) := dk_184 0 195 (dk_at dksX3_letters_3 15 rfl rfl)
theorem dX3_letters_126 : decode cX3_letters 126 = .ok (.lreturn, 1) := dk_173 (dk_at dksX3_letters_3 18 rfl rfl)
theorem dX3_letters_127 : decode cX3_letters 127 = .ok (.bipush 115, 2) := dk_16 115 (dk_at dksX3_letters_3 19 rfl rfl)
theorem dX3_letters_129 : decode cX3_letters 129 = .ok (.bipush 116, 2) := dk_16 116 (dk_at dksX3_letters_3 21 rfl rfl)
theorem dX3_letters_131 : decode cX3_letters 131 = .ok (.bipush 111, 2) := dk_16 111 (dk_at dksX3_letters_4 0 rfl rfl)
theorem dX3_letters_133 : decode cX3_letters 133 = .ok (.bipush 112, 2) := dk_16 112 (dk_at dksX3_letters_4 2 rfl rfl)
theorem dX3_letters_135 : decode cX3_letters 135 = .ok (.iconst 0, 1) := dk_3 (dk_at dksX3_letters_4 4 rfl rfl)
theorem dX3_letters_136 : decode cX3_letters 136 = .ok (.iconst 0, 1) := dk_3 (dk_at dksX3_letters_4 5 rfl rfl)
theorem dX3_letters_137 : decode cX3_letters 137 = .ok (.invokestatic 195, 3) := dk_184 0 195 (dk_at dksX3_letters_4 6 rfl rfl)
theorem dX3_letters_140 : decode cX3_letters 140 = .ok (.lreturn, 1) := dk_173 (dk_at dksX3_letters_4 9 rfl rfl)
theorem dX3_letters_141 : decode cX3_letters 141 = .ok (.bipush 109, 2) := dk_16 109 (dk_at dksX3_letters_4 10 rfl rfl)
theorem dX3_letters_143 : decode cX3_letters 143 = .ok (.bipush 111, 2) := dk_16 111 (dk_at dksX3_letters_4 12 rfl rfl)
theorem dX3_letters_145 : decode cX3_letters 145 = .ok (.bipush 111, 2) := dk_16 111 (dk_at dksX3_letters_4 14 rfl rfl)
theorem dX3_letters_147 : decode cX3_letters 147 = .ok (.bipush 110, 2) := dk_16 110 (dk_at dksX3_letters_4 16 rfl rfl)
theorem dX3_letters_149 : decode cX3_letters 149 = .ok (.iconst 0, 1) := dk_3 (dk_at dksX3_letters_4 18 rfl rfl)
theorem dX3_letters_150 : decode cX3_letters 150 = .ok (.iconst 0, 1) := dk_3 (dk_at dksX3_letters_4 19 rfl rfl)
theorem dX3_letters_151 : decode cX3_letters 151 = .ok (.invokestatic 195, 3) := dk_184 0 195 (dk_at dksX3_letters_4 20 rfl rfl)
theorem dX3_letters_154 : decode cX3_letters 154 = .ok (.lreturn, 1) := dk_173 (dk_at dksX3_letters_4 23 rfl rfl)
theorem dX3_letters_155 : decode cX3_letters 155 = .ok (.bipush 119, 2) := dk_16 119 (dk_at dksX3_letters_5 0 rfl rfl)
theorem dX3_letters_157 : decode cX3_letters 157 = .ok (.bipush 101, 2) := dk_16 101 (dk_at dksX3_letters_5 2 rfl rfl)
theorem dX3_letters_159 : decode cX3_letters 159 = .ok (.bipush 116, 2) := dk_16 116 (dk_at dksX3_letters_5 4 rfl rfl)
theorem dX3_letters_161 : decode cX3_letters 161 = .ok (.iconst 0, 1) := dk_3 (dk_at dksX3_letters_5 6 rfl rfl)
theorem dX3_letters_162 : decode cX3_letters 162 = .ok (.iconst 0, 1) := dk_3 (dk_at dksX3_letters_5 7 rfl rfl)
theorem dX3_letters_163 : decode cX3_letters 163 = .ok (.iconst 0, 1) := dk_3 (dk_at dksX3_letters_5 8 rfl rfl)
theorem dX3_letters_164 : decode cX3_letters 164 = .ok (.invokestatic 195, 3) := dk_184 0 195 (dk_at dksX3_letters_5 9 rfl rfl)
theorem dX3_letters_167 : decode cX3_letters 167 = .ok (.lreturn, 1) := dk_173 (dk_at dksX3_letters_5 12 rfl rfl)
theorem dX3_letters_168 : decode cX3_letters 168 = .ok (.bipush 104, 2) := dk_16 104 (dk_at dksX3_letters_5 13 rfl rfl)
theorem dX3_letters_170 : decode cX3_letters 170 = .ok (.bipush 111, 2) := dk_16 111 (dk_at dksX3_letters_5 15 rfl rfl)
theorem dX3_letters_172 : decode cX3_letters 172 = .ok (.bipush 117, 2) := dk_16 117 (dk_at dksX3_letters_5 17 rfl rfl)
theorem dX3_letters_174 : decode cX3_letters 174 = .ok (.bipush 114, 2) := dk_16 114 (dk_at dksX3_letters_5 19 rfl rfl)
theorem dX3_letters_176 : decode cX3_letters 176 = .ok (.iconst 0, 1) := dk_3 (dk_at dksX3_letters_5 21 rfl rfl)
theorem dX3_letters_177 : decode cX3_letters 177 = .ok (.iconst 0, 1) := dk_3 (dk_at dksX3_letters_5 22 rfl rfl)
theorem dX3_letters_178 : decode cX3_letters 178 = .ok (.invokestatic 195, 3) := dk_184 0 195 (dk_at dksX3_letters_6 0 rfl rfl)
theorem dX3_letters_181 : decode cX3_letters 181 = .ok (.lreturn, 1) := dk_173 (dk_at dksX3_letters_6 3 rfl rfl)
theorem dX3_letters_182 : decode cX3_letters 182 = .ok (.bipush 116, 2) := dk_16 116 (dk_at dksX3_letters_6 4 rfl rfl)
theorem dX3_letters_184 : decode cX3_letters 184 = .ok (.bipush 97, 2) := dk_16 97 (dk_at dksX3_letters_6 6 rfl rfl)
theorem dX3_letters_186 : decode cX3_letters 186 = .ok (.bipush 119, 2) := dk_16 119 (dk_at dksX3_letters_6 8 rfl rfl)
theorem dX3_letters_188 : decode cX3_letters 188 = .ok (.bipush 110, 2) := dk_16 110 (dk_at dksX3_letters_6 10 rfl rfl)
theorem dX3_letters_190 : decode cX3_letters 190 = .ok (.bipush 121, 2) := dk_16 121 (dk_at dksX3_letters_6 12 rfl rfl)
theorem dX3_letters_192 : decode cX3_letters 192 = .ok (.iconst 0, 1) := dk_3 (dk_at dksX3_letters_6 14 rfl rfl)
theorem dX3_letters_193 : decode cX3_letters 193 = .ok (.invokestatic 195, 3) := dk_184 0 195 (dk_at dksX3_letters_6 15 rfl rfl)
theorem dX3_letters_196 : decode cX3_letters 196 = .ok (.lreturn, 1) := dk_173 (dk_at dksX3_letters_6 18 rfl rfl)
theorem dX3_letters_197 : decode cX3_letters 197 = .ok (.bipush 98, 2) := dk_16 98 (dk_at dksX3_letters_6 19 rfl rfl)
theorem dX3_letters_199 : decode cX3_letters 199 = .ok (.bipush 97, 2) := dk_16 97 (dk_at dksX3_letters_6 21 rfl rfl)
theorem dX3_letters_201 : decode cX3_letters 201 = .ok (.bipush 114, 2) := dk_16 114 (dk_at dksX3_letters_7 0 rfl rfl)
theorem dX3_letters_203 : decode cX3_letters 203 = .ok (.bipush 110, 2) := dk_16 110 (dk_at dksX3_letters_7 2 rfl rfl)
theorem dX3_letters_205 : decode cX3_letters 205 = .ok (.iconst 0, 1) := dk_3 (dk_at dksX3_letters_7 4 rfl rfl)
theorem dX3_letters_206 : decode cX3_letters 206 = .ok (.iconst 0, 1) := dk_3 (dk_at dksX3_letters_7 5 rfl rfl)
theorem dX3_letters_207 : decode cX3_letters 207 = .ok (.invokestatic 195, 3) := dk_184 0 195 (dk_at dksX3_letters_7 6 rfl rfl)
theorem dX3_letters_210 : decode cX3_letters 210 = .ok (.lreturn, 1) := dk_173 (dk_at dksX3_letters_7 9 rfl rfl)
theorem dX3_letters_211 : decode cX3_letters 211 = .ok (.bipush 119, 2) := dk_16 119 (dk_at dksX3_letters_7 10 rfl rfl)
theorem dX3_letters_213 : decode cX3_letters 213 = .ok (.bipush 104, 2) := dk_16 104 (dk_at dksX3_letters_7 12 rfl rfl)
theorem dX3_letters_215 : decode cX3_letters 215 = .ok (.bipush 105, 2) := dk_16 105 (dk_at dksX3_letters_7 14 rfl rfl)
theorem dX3_letters_217 : decode cX3_letters 217 = .ok (.bipush 116, 2) := dk_16 116 (dk_at dksX3_letters_7 16 rfl rfl)
theorem dX3_letters_219 : decode cX3_letters 219 = .ok (.bipush 101, 2) := dk_16 101 (dk_at dksX3_letters_7 18 rfl rfl)
theorem dX3_letters_221 : decode cX3_letters 221 = .ok (.iconst 0, 1) := dk_3 (dk_at dksX3_letters_7 20 rfl rfl)
theorem dX3_letters_222 : decode cX3_letters 222 = .ok (.invokestatic 195, 3) := dk_184 0 195 (dk_at dksX3_letters_7 21 rfl rfl)
theorem dX3_letters_225 : decode cX3_letters 225 = .ok (.lreturn, 1) := dk_173 (dk_at dksX3_letters_8 0 rfl rfl)
theorem dX3_letters_226 : decode cX3_letters 226 = .ok (.bipush 114, 2) := dk_16 114 (dk_at dksX3_letters_8 1 rfl rfl)
theorem dX3_letters_228 : decode cX3_letters 228 = .ok (.bipush 111, 2) := dk_16 111 (dk_at dksX3_letters_8 3 rfl rfl)
theorem dX3_letters_230 : decode cX3_letters 230 = .ok (.bipush 111, 2) := dk_16 111 (dk_at dksX3_letters_8 5 rfl rfl)
theorem dX3_letters_232 : decode cX3_letters 232 = .ok (.bipush 102, 2) := dk_16 102 (dk_at dksX3_letters_8 7 rfl rfl)
theorem dX3_letters_234 : decode cX3_letters 234 = .ok (.iconst 0, 1) := dk_3 (dk_at dksX3_letters_8 9 rfl rfl)
theorem dX3_letters_235 : decode cX3_letters 235 = .ok (.iconst 0, 1) := dk_3 (dk_at dksX3_letters_8 10 rfl rfl)
theorem dX3_letters_236 : decode cX3_letters 236 = .ok (.invokestatic 195, 3) := dk_184 0 195 (dk_at dksX3_letters_8 11 rfl rfl)
theorem dX3_letters_239 : decode cX3_letters 239 = .ok (.lreturn, 1) := dk_173 (dk_at dksX3_letters_8 14 rfl rfl)
theorem dX3_letters_240 : decode cX3_letters 240 = .ok (.bipush 102, 2) := dk_16 102 (dk_at dksX3_letters_8 15 rfl rfl)
theorem dX3_letters_242 : decode cX3_letters 242 = .ok (.bipush 108, 2) := dk_16 108 (dk_at dksX3_letters_8 17 rfl rfl)
theorem dX3_letters_244 : decode cX3_letters 244 = .ok (.bipush 105, 2) := dk_16 105 (dk_at dksX3_letters_8 19 rfl rfl)
theorem dX3_letters_246 : decode cX3_letters 246 = .ok (.bipush 103, 2) := dk_16 103 (dk_at dksX3_letters_8 21 rfl rfl)
theorem dX3_letters_248 : decode cX3_letters 248 = .ok (.bipush 104, 2) := dk_16 104 (dk_at dksX3_letters_9 0 rfl rfl)
theorem dX3_letters_250 : decode cX3_letters 250 = .ok (.bipush 116, 2) := dk_16 116 (dk_at dksX3_letters_9 2 rfl rfl)
theorem dX3_letters_252 : decode cX3_letters 252 = .ok (.invokestatic 195, 3) := dk_184 0 195 (dk_at dksX3_letters_9 4 rfl rfl)
theorem dX3_letters_255 : decode cX3_letters 255 = .ok (.lreturn, 1) := dk_173 (dk_at dksX3_letters_9 7 rfl rfl)
theorem dX3_letters_256 : decode cX3_letters 256 = .ok (.bipush 114, 2) := dk_16 114 (dk_at dksX3_letters_9 8 rfl rfl)
theorem dX3_letters_258 : decode cX3_letters 258 = .ok (.bipush 105, 2) := dk_16 105 (dk_at dksX3_letters_9 10 rfl rfl)
theorem dX3_letters_260 : decode cX3_letters 260 = .ok (.bipush 100, 2) := dk_16 100 (dk_at dksX3_letters_9 12 rfl rfl)
theorem dX3_letters_262 : decode cX3_letters 262 = .ok (.bipush 101, 2) := dk_16 101 (dk_at dksX3_letters_9 14 rfl rfl)
theorem dX3_letters_264 : decode cX3_letters 264 = .ok (.bipush 114, 2) := dk_16 114 (dk_at dksX3_letters_9 16 rfl rfl)
theorem dX3_letters_266 : decode cX3_letters 266 = .ok (.iconst 0, 1) := dk_3 (dk_at dksX3_letters_9 18 rfl rfl)
theorem dX3_letters_267 : decode cX3_letters 267 = .ok (.invokestatic 195, 3) := dk_184 0 195 (dk_at dksX3_letters_9 19 rfl rfl)
theorem dX3_letters_270 : decode cX3_letters 270 = .ok (.lreturn, 1) := dk_173 (dk_at dksX3_letters_9 22 rfl rfl)
theorem dX3_letters_271 : decode cX3_letters 271 = .ok (.bipush 100, 2) := dk_16 100 (dk_at dksX3_letters_10 0 rfl rfl)
theorem dX3_letters_273 : decode cX3_letters 273 = .ok (.bipush 97, 2) := dk_16 97 (dk_at dksX3_letters_10 2 rfl rfl)
theorem dX3_letters_275 : decode cX3_letters 275 = .ok (.bipush 119, 2) := dk_16 119 (dk_at dksX3_letters_10 4 rfl rfl)
theorem dX3_letters_277 : decode cX3_letters 277 = .ok (.bipush 110, 2) := dk_16 110 (dk_at dksX3_letters_10 6 rfl rfl)
theorem dX3_letters_279 : decode cX3_letters 279 = .ok (.iconst 0, 1) := dk_3 (dk_at dksX3_letters_10 8 rfl rfl)
theorem dX3_letters_280 : decode cX3_letters 280 = .ok (.iconst 0, 1) := dk_3 (dk_at dksX3_letters_10 9 rfl rfl)
theorem dX3_letters_281 : decode cX3_letters 281 = .ok (.invokestatic 195, 3) := dk_184 0 195 (dk_at dksX3_letters_10 10 rfl rfl)
theorem dX3_letters_284 : decode cX3_letters 284 = .ok (.lreturn, 1) := dk_173 (dk_at dksX3_letters_10 13 rfl rfl)
theorem dX3_letters_285 : decode cX3_letters 285 = .ok (.bipush 104, 2) := dk_16 104 (dk_at dksX3_letters_10 14 rfl rfl)
theorem dX3_letters_287 : decode cX3_letters 287 = .ok (.bipush 117, 2) := dk_16 117 (dk_at dksX3_letters_10 16 rfl rfl)
theorem dX3_letters_289 : decode cX3_letters 289 = .ok (.bipush 110, 2) := dk_16 110 (dk_at dksX3_letters_10 18 rfl rfl)
theorem dX3_letters_291 : decode cX3_letters 291 = .ok (.bipush 116, 2) := dk_16 116 (dk_at dksX3_letters_10 20 rfl rfl)
theorem dX3_letters_293 : decode cX3_letters 293 = .ok (.bipush 115, 2) := dk_16 115 (dk_at dksX3_letters_10 22 rfl rfl)
theorem dX3_letters_295 : decode cX3_letters 295 = .ok (.iconst 0, 1) := dk_3 (dk_at dksX3_letters_11 0 rfl rfl)
theorem dX3_letters_296 : decode cX3_letters 296 = .ok (.invokestatic 195, 3) := dk_184 0 195 (dk_at dksX3_letters_11 1 rfl rfl)
theorem dX3_letters_299 : decode cX3_letters 299 = .ok (.lreturn, 1) := dk_173 (dk_at dksX3_letters_11 4 rfl rfl)
theorem dX3_letters_300 : decode cX3_letters 300 = .ok (.bipush 97, 2) := dk_16 97 (dk_at dksX3_letters_11 5 rfl rfl)
theorem dX3_letters_302 : decode cX3_letters 302 = .ok (.bipush 110, 2) := dk_16 110 (dk_at dksX3_letters_11 7 rfl rfl)
theorem dX3_letters_304 : decode cX3_letters 304 = .ok (.bipush 100, 2) := dk_16 100 (dk_at dksX3_letters_11 9 rfl rfl)
theorem dX3_letters_306 : decode cX3_letters 306 = .ok (.iconst 0, 1) := dk_3 (dk_at dksX3_letters_11 11 rfl rfl)
theorem dX3_letters_307 : decode cX3_letters 307 = .ok (.iconst 0, 1) := dk_3 (dk_at dksX3_letters_11 12 rfl rfl)
theorem dX3_letters_308 : decode cX3_letters 308 = .ok (.iconst 0, 1) := dk_3 (dk_at dksX3_letters_11 13 rfl rfl)
theorem dX3_letters_309 : decode cX3_letters 309 = .ok (.invokestatic 195, 3) := dk_184 0 195 (dk_at dksX3_letters_11 14 rfl rfl)
theorem dX3_letters_312 : decode cX3_letters 312 = .ok (.lreturn, 1) := dk_173 (dk_at dksX3_letters_11 17 rfl rfl)
theorem dX3_letters_313 : decode cX3_letters 313 = .ok (.bipush 111, 2) := dk_16 111 (dk_at dksX3_letters_11 18 rfl rfl)
theorem dX3_letters_315 : decode cX3_letters 315 = .ok (.bipush 114, 2) := dk_16 114 (dk_at dksX3_letters_11 20 rfl rfl)
theorem dX3_letters_317 : decode cX3_letters 317 = .ok (.iconst 0, 1) := dk_3 (dk_at dksX3_letters_11 22 rfl rfl)
theorem dX3_letters_318 : decode cX3_letters 318 = .ok (.iconst 0, 1) := dk_3 (dk_at dksX3_letters_11 23 rfl rfl)
theorem dX3_letters_319 : decode cX3_letters 319 = .ok (.iconst 0, 1) := dk_3 (dk_at dksX3_letters_12 0 rfl rfl)
theorem dX3_letters_320 : decode cX3_letters 320 = .ok (.iconst 0, 1) := dk_3 (dk_at dksX3_letters_12 1 rfl rfl)
theorem dX3_letters_321 : decode cX3_letters 321 = .ok (.invokestatic 195, 3) := dk_184 0 195 (dk_at dksX3_letters_12 2 rfl rfl)
theorem dX3_letters_324 : decode cX3_letters 324 = .ok (.lreturn, 1) := dk_173 (dk_at dksX3_letters_12 5 rfl rfl)
theorem dX3_letters_325 : decode cX3_letters 325 = .ok (.bipush 110, 2) := dk_16 110 (dk_at dksX3_letters_12 6 rfl rfl)
theorem dX3_letters_327 : decode cX3_letters 327 = .ok (.bipush 111, 2) := dk_16 111 (dk_at dksX3_letters_12 8 rfl rfl)
theorem dX3_letters_329 : decode cX3_letters 329 = .ok (.bipush 116, 2) := dk_16 116 (dk_at dksX3_letters_12 10 rfl rfl)
theorem dX3_letters_331 : decode cX3_letters 331 = .ok (.iconst 0, 1) := dk_3 (dk_at dksX3_letters_12 12 rfl rfl)
theorem dX3_letters_332 : decode cX3_letters 332 = .ok (.iconst 0, 1) := dk_3 (dk_at dksX3_letters_12 13 rfl rfl)
theorem dX3_letters_333 : decode cX3_letters 333 = .ok (.iconst 0, 1) := dk_3 (dk_at dksX3_letters_12 14 rfl rfl)
theorem dX3_letters_334 : decode cX3_letters 334 = .ok (.invokestatic 195, 3) := dk_184 0 195 (dk_at dksX3_letters_12 15 rfl rfl)
theorem dX3_letters_337 : decode cX3_letters 337 = .ok (.lreturn, 1) := dk_173 (dk_at dksX3_letters_12 18 rfl rfl)
abbrev cX3_spelled : ByteArray := prog_14_method_14_code
def yX3_spelled : MethodName := ⟨RX3, "spelled", "(IIIIII)J"⟩
def dkwX3_spelled_3 : List UInt8 := [22, 6, 8, 121, 21, 5, 16, 96, 100, 133, 129, 55, 6, 22, 6, 173]
abbrev dktX3_spelled_3 : List UInt8 := dkwX3_spelled_3 ++ []
def dkwX3_spelled_2 : List UInt8 := [21, 4, 153, 0, 16, 22, 6, 8, 121, 21, 4, 16, 96, 100, 133, 129, 55, 6, 21, 5, 153, 0, 16]
abbrev dktX3_spelled_2 : List UInt8 := dkwX3_spelled_2 ++ dktX3_spelled_3
def dkwX3_spelled_1 : List UInt8 := [28, 16, 96, 100, 133, 129, 55, 6, 29, 153, 0, 15, 22, 6, 8, 121, 29, 16, 96, 100, 133, 129, 55, 6]
abbrev dktX3_spelled_1 : List UInt8 := dkwX3_spelled_1 ++ dktX3_spelled_2
def dkwX3_spelled_0 : List UInt8 := [26, 133, 20, 0, 193, 101, 8, 121, 27, 16, 96, 100, 133, 129, 55, 6, 28, 153, 0, 15, 22, 6, 8, 121]
abbrev dktX3_spelled_0 : List UInt8 := dkwX3_spelled_0 ++ dktX3_spelled_1
theorem dksX3_spelled_0 : cX3_spelled.data.toList.drop 0 = dktX3_spelled_0 := by decide +kernel
theorem dksX3_spelled_1 : cX3_spelled.data.toList.drop 24 = dktX3_spelled_1 := dk_seg dksX3_spelled_0 24 rfl rfl
theorem dksX3_spelled_2 : cX3_spelled.data.toList.drop 48 = dktX3_spelled_2 := dk_seg dksX3_spelled_1 24 rfl rfl
theorem dksX3_spelled_3 : cX3_spelled.data.toList.drop 71 = dktX3_spelled_3 := dk_seg dksX3_spelled_2 23 rfl rfl
theorem dX3_spelled_0 : decode cX3_spelled 0 = .ok (.iload_n 0, 1) := dk_26 (dk_at dksX3_spelled_0 0 rfl rfl)
theorem dX3_spelled_1 : decode cX3_spelled 1 = .ok (.i2l, 1) := dk_133 (dk_at dksX3_spelled_0 1 rfl rfl)
theorem dX3_spelled_2 : decode cX3_spelled 2 = .ok (.ldc2_w 193, 3) := dk_20 0 193 (dk_at dksX3_spelled_0 2 rfl rfl)
theorem dX3_spelled_5 : decode cX3_spelled 5 = .ok (.lsub, 1) := dk_101 (dk_at dksX3_spelled_0 5 rfl rfl)
theorem dX3_spelled_6 : decode cX3_spelled 6 = .ok (.iconst 5, 1) := dk_8 (dk_at dksX3_spelled_0 6 rfl rfl)
theorem dX3_spelled_7 : decode cX3_spelled 7 = .ok (.lshl, 1) := dk_121 (dk_at dksX3_spelled_0 7 rfl rfl)
theorem dX3_spelled_8 : decode cX3_spelled 8 = .ok (.iload_n 1, 1) := dk_27 (dk_at dksX3_spelled_0 8 rfl rfl)
theorem dX3_spelled_9 : decode cX3_spelled 9 = .ok (.bipush 96, 2) := dk_16 96 (dk_at dksX3_spelled_0 9 rfl rfl)
theorem dX3_spelled_11 : decode cX3_spelled 11 = .ok (.isub, 1) := dk_100 (dk_at dksX3_spelled_0 11 rfl rfl)
theorem dX3_spelled_12 : decode cX3_spelled 12 = .ok (.i2l, 1) := dk_133 (dk_at dksX3_spelled_0 12 rfl rfl)
theorem dX3_spelled_13 : decode cX3_spelled 13 = .ok (.lor, 1) := dk_129 (dk_at dksX3_spelled_0 13 rfl rfl)
theorem dX3_spelled_14 : decode cX3_spelled 14 = .ok (.lstore 6, 2) := dk_55 6 (dk_at dksX3_spelled_0 14 rfl rfl)
theorem dX3_spelled_16 : decode cX3_spelled 16 = .ok (.iload_n 2, 1) := dk_28 (dk_at dksX3_spelled_0 16 rfl rfl)
theorem dX3_spelled_17 : decode cX3_spelled 17 = .ok (.ifCond .eq 15, 3) := dk_153 0 15 (dk_at dksX3_spelled_0 17 rfl rfl)
theorem dX3_spelled_20 : decode cX3_spelled 20 = .ok (.lload 6, 2) := dk_22 6 (dk_at dksX3_spelled_0 20 rfl rfl)
theorem dX3_spelled_22 : decode cX3_spelled 22 = .ok (.iconst 5, 1) := dk_8 (dk_at dksX3_spelled_0 22 rfl rfl)
theorem dX3_spelled_23 : decode cX3_spelled 23 = .ok (.lshl, 1) := dk_121 (dk_at dksX3_spelled_0 23 rfl rfl)
theorem dX3_spelled_24 : decode cX3_spelled 24 = .ok (.iload_n 2, 1) := dk_28 (dk_at dksX3_spelled_1 0 rfl rfl)
theorem dX3_spelled_25 : decode cX3_spelled 25 = .ok (.bipush 96, 2) := dk_16 96 (dk_at dksX3_spelled_1 1 rfl rfl)
theorem dX3_spelled_27 : decode cX3_spelled 27 = .ok (.isub, 1) := dk_100 (dk_at dksX3_spelled_1 3 rfl rfl)
theorem dX3_spelled_28 : decode cX3_spelled 28 = .ok (.i2l, 1) := dk_133 (dk_at dksX3_spelled_1 4 rfl rfl)
theorem dX3_spelled_29 : decode cX3_spelled 29 = .ok (.lor, 1) := dk_129 (dk_at dksX3_spelled_1 5 rfl rfl)
theorem dX3_spelled_30 : decode cX3_spelled 30 = .ok (.lstore 6, 2) := dk_55 6 (dk_at dksX3_spelled_1 6 rfl rfl)
theorem dX3_spelled_32 : decode cX3_spelled 32 = .ok (.iload_n 3, 1) := dk_29 (dk_at dksX3_spelled_1 8 rfl rfl)
theorem dX3_spelled_33 : decode cX3_spelled 33 = .ok (.ifCond .eq 15, 3) := dk_153 0 15 (dk_at dksX3_spelled_1 9 rfl rfl)
theorem dX3_spelled_36 : decode cX3_spelled 36 = .ok (.lload 6, 2) := dk_22 6 (dk_at dksX3_spelled_1 12 rfl rfl)
theorem dX3_spelled_38 : decode cX3_spelled 38 = .ok (.iconst 5, 1) := dk_8 (dk_at dksX3_spelled_1 14 rfl rfl)
theorem dX3_spelled_39 : decode cX3_spelled 39 = .ok (.lshl, 1) := dk_121 (dk_at dksX3_spelled_1 15 rfl rfl)
theorem dX3_spelled_40 : decode cX3_spelled 40 = .ok (.iload_n 3, 1) := dk_29 (dk_at dksX3_spelled_1 16 rfl rfl)
theorem dX3_spelled_41 : decode cX3_spelled 41 = .ok (.bipush 96, 2) := dk_16 96 (dk_at dksX3_spelled_1 17 rfl rfl)
theorem dX3_spelled_43 : decode cX3_spelled 43 = .ok (.isub, 1) := dk_100 (dk_at dksX3_spelled_1 19 rfl rfl)
theorem dX3_spelled_44 : decode cX3_spelled 44 = .ok (.i2l, 1) := dk_133 (dk_at dksX3_spelled_1 20 rfl rfl)
theorem dX3_spelled_45 : decode cX3_spelled 45 = .ok (.lor, 1) := dk_129 (dk_at dksX3_spelled_1 21 rfl rfl)
theorem dX3_spelled_46 : decode cX3_spelled 46 = .ok (.lstore 6, 2) := dk_55 6 (dk_at dksX3_spelled_1 22 rfl rfl)
theorem dX3_spelled_48 : decode cX3_spelled 48 = .ok (.iload 4, 2) := dk_21 4 (dk_at dksX3_spelled_2 0 rfl rfl)
theorem dX3_spelled_50 : decode cX3_spelled 50 = .ok (.ifCond .eq 16, 3) := dk_153 0 16 (dk_at dksX3_spelled_2 2 rfl rfl)
theorem dX3_spelled_53 : decode cX3_spelled 53 = .ok (.lload 6, 2) := dk_22 6 (dk_at dksX3_spelled_2 5 rfl rfl)
theorem dX3_spelled_55 : decode cX3_spelled 55 = .ok (.iconst 5, 1) := dk_8 (dk_at dksX3_spelled_2 7 rfl rfl)
theorem dX3_spelled_56 : decode cX3_spelled 56 = .ok (.lshl, 1) := dk_121 (dk_at dksX3_spelled_2 8 rfl rfl)
theorem dX3_spelled_57 : decode cX3_spelled 57 = .ok (.iload 4, 2) := dk_21 4 (dk_at dksX3_spelled_2 9 rfl rfl)
theorem dX3_spelled_59 : decode cX3_spelled 59 = .ok (.bipush 96, 2) := dk_16 96 (dk_at dksX3_spelled_2 11 rfl rfl)
theorem dX3_spelled_61 : decode cX3_spelled 61 = .ok (.isub, 1) := dk_100 (dk_at dksX3_spelled_2 13 rfl rfl)
theorem dX3_spelled_62 : decode cX3_spelled 62 = .ok (.i2l, 1) := dk_133 (dk_at dksX3_spelled_2 14 rfl rfl)
theorem dX3_spelled_63 : decode cX3_spelled 63 = .ok (.lor, 1) := dk_129 (dk_at dksX3_spelled_2 15 rfl rfl)
theorem dX3_spelled_64 : decode cX3_spelled 64 = .ok (.lstore 6, 2) := dk_55 6 (dk_at dksX3_spelled_2 16 rfl rfl)
theorem dX3_spelled_66 : decode cX3_spelled 66 = .ok (.iload 5, 2) := dk_21 5 (dk_at dksX3_spelled_2 18 rfl rfl)
theorem dX3_spelled_68 : decode cX3_spelled 68 = .ok (.ifCond .eq 16, 3) := dk_153 0 16 (dk_at dksX3_spelled_2 20 rfl rfl)
theorem dX3_spelled_71 : decode cX3_spelled 71 = .ok (.lload 6, 2) := dk_22 6 (dk_at dksX3_spelled_3 0 rfl rfl)
theorem dX3_spelled_73 : decode cX3_spelled 73 = .ok (.iconst 5, 1) := dk_8 (dk_at dksX3_spelled_3 2 rfl rfl)
theorem dX3_spelled_74 : decode cX3_spelled 74 = .ok (.lshl, 1) := dk_121 (dk_at dksX3_spelled_3 3 rfl rfl)
theorem dX3_spelled_75 : decode cX3_spelled 75 = .ok (.iload 5, 2) := dk_21 5 (dk_at dksX3_spelled_3 4 rfl rfl)
theorem dX3_spelled_77 : decode cX3_spelled 77 = .ok (.bipush 96, 2) := dk_16 96 (dk_at dksX3_spelled_3 6 rfl rfl)
theorem dX3_spelled_79 : decode cX3_spelled 79 = .ok (.isub, 1) := dk_100 (dk_at dksX3_spelled_3 8 rfl rfl)
theorem dX3_spelled_80 : decode cX3_spelled 80 = .ok (.i2l, 1) := dk_133 (dk_at dksX3_spelled_3 9 rfl rfl)
theorem dX3_spelled_81 : decode cX3_spelled 81 = .ok (.lor, 1) := dk_129 (dk_at dksX3_spelled_3 10 rfl rfl)
theorem dX3_spelled_82 : decode cX3_spelled 82 = .ok (.lstore 6, 2) := dk_55 6 (dk_at dksX3_spelled_3 11 rfl rfl)
theorem dX3_spelled_84 : decode cX3_spelled 84 = .ok (.lload 6, 2) := dk_22 6 (dk_at dksX3_spelled_3 13 rfl rfl)
theorem dX3_spelled_86 : decode cX3_spelled 86 = .ok (.lreturn, 1) := dk_173 (dk_at dksX3_spelled_3 15 rfl rfl)
abbrev cX3_wrong : ByteArray := prog_14_method_17_code
def yX3_wrong : MethodName := ⟨RX3, "wrong", "(I)V"⟩
def dkwX3_wrong_0 : List UInt8 := [42, 180, 0, 203, 153, 0, 4, 177, 42, 27, 181, 0, 203, 42, 42, 180, 0, 167, 181, 0, 38, 177]
abbrev dktX3_wrong_0 : List UInt8 := dkwX3_wrong_0 ++ []
theorem dksX3_wrong_0 : cX3_wrong.data.toList.drop 0 = dktX3_wrong_0 := by decide +kernel
theorem dX3_wrong_0 : decode cX3_wrong 0 = .ok (.aload_n 0, 1) := dk_42 (dk_at dksX3_wrong_0 0 rfl rfl)
theorem dX3_wrong_1 : decode cX3_wrong 1 = .ok (.getfield 203, 3) := dk_180 0 203 (dk_at dksX3_wrong_0 1 rfl rfl)
theorem dX3_wrong_4 : decode cX3_wrong 4 = .ok (.ifCond .eq 4, 3) := dk_153 0 4 (dk_at dksX3_wrong_0 4 rfl rfl)
theorem dX3_wrong_7 : decode cX3_wrong 7 = .ok (.return_, 1) := dk_177 (dk_at dksX3_wrong_0 7 rfl rfl)
theorem dX3_wrong_8 : decode cX3_wrong 8 = .ok (.aload_n 0, 1) := dk_42 (dk_at dksX3_wrong_0 8 rfl rfl)
theorem dX3_wrong_9 : decode cX3_wrong 9 = .ok (.iload_n 1, 1) := dk_27 (dk_at dksX3_wrong_0 9 rfl rfl)
theorem dX3_wrong_10 : decode cX3_wrong 10 = .ok (.putfield 203, 3) := dk_181 0 203 (dk_at dksX3_wrong_0 10 rfl rfl)
theorem dX3_wrong_13 : decode cX3_wrong 13 = .ok (.aload_n 0, 1) := dk_42 (dk_at dksX3_wrong_0 13 rfl rfl)
theorem dX3_wrong_14 : decode cX3_wrong 14 = .ok (.aload_n 0, 1) := dk_42 (dk_at dksX3_wrong_0 14 rfl rfl)
theorem dX3_wrong_15 : decode cX3_wrong 15 = .ok (.getfield 167, 3) := dk_180 0 167 (dk_at dksX3_wrong_0 15 rfl rfl)
theorem dX3_wrong_18 : decode cX3_wrong 18 = .ok (.putfield 38, 3) := dk_181 0 38 (dk_at dksX3_wrong_0 18 rfl rfl)
theorem dX3_wrong_21 : decode cX3_wrong 21 = .ok (.return_, 1) := dk_177 (dk_at dksX3_wrong_0 21 rfl rfl)
abbrev cX3_number : ByteArray := prog_14_method_21_code
def yX3_number : MethodName := ⟨RX3, "number", "(II)I"⟩
def dkwX3_number_3 : List UInt8 := [29, 172]
abbrev dktX3_number_3 : List UInt8 := dkwX3_number_3 ++ []
def dkwX3_number_2 : List UInt8 := [164, 0, 8, 42, 5, 182, 0, 213, 42, 180, 0, 174, 62, 42, 182, 0, 206, 153, 0, 7, 42, 182, 0, 210]
abbrev dktX3_number_2 : List UInt8 := dkwX3_number_2 ++ dktX3_number_3
def dkwX3_number_1 : List UInt8 := [167, 0, 32, 42, 180, 0, 190, 7, 163, 0, 19, 42, 180, 0, 174, 27, 161, 0, 11, 42, 180, 0, 174, 28]
abbrev dktX3_number_1 : List UInt8 := dkwX3_number_1 ++ dktX3_number_2
def dkwX3_number_0 : List UInt8 := [42, 182, 0, 206, 154, 0, 5, 3, 172, 42, 180, 0, 180, 5, 159, 0, 11, 42, 4, 182, 0, 213]
abbrev dktX3_number_0 : List UInt8 := dkwX3_number_0 ++ dktX3_number_1
theorem dksX3_number_0 : cX3_number.data.toList.drop 0 = dktX3_number_0 := by decide +kernel
theorem dksX3_number_1 : cX3_number.data.toList.drop 22 = dktX3_number_1 := dk_seg dksX3_number_0 22 rfl rfl
theorem dksX3_number_2 : cX3_number.data.toList.drop 46 = dktX3_number_2 := dk_seg dksX3_number_1 24 rfl rfl
theorem dksX3_number_3 : cX3_number.data.toList.drop 70 = dktX3_number_3 := dk_seg dksX3_number_2 24 rfl rfl
theorem dX3_number_0 : decode cX3_number 0 = .ok (.aload_n 0, 1) := dk_42 (dk_at dksX3_number_0 0 rfl rfl)
theorem dX3_number_1 : decode cX3_number 1 = .ok (.invokevirtual 206, 3) := dk_182 0 206 (dk_at dksX3_number_0 1 rfl rfl)
theorem dX3_number_4 : decode cX3_number 4 = .ok (.ifCond .ne 5, 3) := dk_154 0 5 (dk_at dksX3_number_0 4 rfl rfl)
theorem dX3_number_7 : decode cX3_number 7 = .ok (.iconst 0, 1) := dk_3 (dk_at dksX3_number_0 7 rfl rfl)
theorem dX3_number_8 : decode cX3_number 8 = .ok (.ireturn, 1) := dk_172 (dk_at dksX3_number_0 8 rfl rfl)
theorem dX3_number_9 : decode cX3_number 9 = .ok (.aload_n 0, 1) := dk_42 (dk_at dksX3_number_0 9 rfl rfl)
theorem dX3_number_10 : decode cX3_number 10 = .ok (.getfield 180, 3) := dk_180 0 180 (dk_at dksX3_number_0 10 rfl rfl)
theorem dX3_number_13 : decode cX3_number 13 = .ok (.iconst 2, 1) := dk_5 (dk_at dksX3_number_0 13 rfl rfl)
theorem dX3_number_14 : decode cX3_number 14 = .ok (.if_icmp .eq 11, 3) := dk_159 0 11 (dk_at dksX3_number_0 14 rfl rfl)
theorem dX3_number_17 : decode cX3_number 17 = .ok (.aload_n 0, 1) := dk_42 (dk_at dksX3_number_0 17 rfl rfl)
theorem dX3_number_18 : decode cX3_number 18 = .ok (.iconst 1, 1) := dk_4 (dk_at dksX3_number_0 18 rfl rfl)
theorem dX3_number_19 : decode cX3_number 19 = .ok (.invokevirtual 213, 3) := dk_182 0 213 (dk_at dksX3_number_0 19 rfl rfl)
theorem dX3_number_22 : decode cX3_number 22 = .ok (.goto 32, 3) := dk_167 0 32 (dk_at dksX3_number_1 0 rfl rfl)
theorem dX3_number_25 : decode cX3_number 25 = .ok (.aload_n 0, 1) := dk_42 (dk_at dksX3_number_1 3 rfl rfl)
theorem dX3_number_26 : decode cX3_number 26 = .ok (.getfield 190, 3) := dk_180 0 190 (dk_at dksX3_number_1 4 rfl rfl)
theorem dX3_number_29 : decode cX3_number 29 = .ok (.iconst 4, 1) := dk_7 (dk_at dksX3_number_1 7 rfl rfl)
theorem dX3_number_30 : decode cX3_number 30 = .ok (.if_icmp .gt 19, 3) := dk_163 0 19 (dk_at dksX3_number_1 8 rfl rfl)
theorem dX3_number_33 : decode cX3_number 33 = .ok (.aload_n 0, 1) := dk_42 (dk_at dksX3_number_1 11 rfl rfl)
theorem dX3_number_34 : decode cX3_number 34 = .ok (.getfield 174, 3) := dk_180 0 174 (dk_at dksX3_number_1 12 rfl rfl)
theorem dX3_number_37 : decode cX3_number 37 = .ok (.iload_n 1, 1) := dk_27 (dk_at dksX3_number_1 15 rfl rfl)
theorem dX3_number_38 : decode cX3_number 38 = .ok (.if_icmp .lt 11, 3) := dk_161 0 11 (dk_at dksX3_number_1 16 rfl rfl)
theorem dX3_number_41 : decode cX3_number 41 = .ok (.aload_n 0, 1) := dk_42 (dk_at dksX3_number_1 19 rfl rfl)
theorem dX3_number_42 : decode cX3_number 42 = .ok (.getfield 174, 3) := dk_180 0 174 (dk_at dksX3_number_1 20 rfl rfl)
theorem dX3_number_45 : decode cX3_number 45 = .ok (.iload_n 2, 1) := dk_28 (dk_at dksX3_number_1 23 rfl rfl)
theorem dX3_number_46 : decode cX3_number 46 = .ok (.if_icmp .le 8, 3) := dk_164 0 8 (dk_at dksX3_number_2 0 rfl rfl)
theorem dX3_number_49 : decode cX3_number 49 = .ok (.aload_n 0, 1) := dk_42 (dk_at dksX3_number_2 3 rfl rfl)
theorem dX3_number_50 : decode cX3_number 50 = .ok (.iconst 2, 1) := dk_5 (dk_at dksX3_number_2 4 rfl rfl)
theorem dX3_number_51 : decode cX3_number 51 = .ok (.invokevirtual 213, 3) := dk_182 0 213 (dk_at dksX3_number_2 5 rfl rfl)
theorem dX3_number_54 : decode cX3_number 54 = .ok (.aload_n 0, 1) := dk_42 (dk_at dksX3_number_2 8 rfl rfl)
theorem dX3_number_55 : decode cX3_number 55 = .ok (.getfield 174, 3) := dk_180 0 174 (dk_at dksX3_number_2 9 rfl rfl)
theorem dX3_number_58 : decode cX3_number 58 = .ok (.istore_n 3, 1) := dk_62 (dk_at dksX3_number_2 12 rfl rfl)
theorem dX3_number_59 : decode cX3_number 59 = .ok (.aload_n 0, 1) := dk_42 (dk_at dksX3_number_2 13 rfl rfl)
theorem dX3_number_60 : decode cX3_number 60 = .ok (.invokevirtual 206, 3) := dk_182 0 206 (dk_at dksX3_number_2 14 rfl rfl)
theorem dX3_number_63 : decode cX3_number 63 = .ok (.ifCond .eq 7, 3) := dk_153 0 7 (dk_at dksX3_number_2 17 rfl rfl)
theorem dX3_number_66 : decode cX3_number 66 = .ok (.aload_n 0, 1) := dk_42 (dk_at dksX3_number_2 20 rfl rfl)
theorem dX3_number_67 : decode cX3_number 67 = .ok (.invokevirtual 210, 3) := dk_182 0 210 (dk_at dksX3_number_2 21 rfl rfl)
theorem dX3_number_70 : decode cX3_number 70 = .ok (.iload_n 3, 1) := dk_29 (dk_at dksX3_number_3 0 rfl rfl)
theorem dX3_number_71 : decode cX3_number 71 = .ok (.ireturn, 1) := dk_172 (dk_at dksX3_number_3 1 rfl rfl)
abbrev cX3_readsFlight : ByteArray := prog_14_method_35_code
def yX3_readsFlight : MethodName := ⟨RX3, "readsFlight", "()V"⟩
def dkwX3_readsFlight_5 : List UInt8 := [180, 1, 13, 4, 96, 181, 1, 13, 177]
abbrev dktX3_readsFlight_5 : List UInt8 := dkwX3_readsFlight_5 ++ []
def dkwX3_readsFlight_4 : List UInt8 := [16, 10, 27, 104, 28, 96, 29, 79, 42, 180, 0, 47, 16, 10, 28, 104, 27, 96, 29, 79, 42, 89]
abbrev dktX3_readsFlight_4 : List UInt8 := dkwX3_readsFlight_4 ++ dktX3_readsFlight_5
def dkwX3_readsFlight_3 : List UInt8 := [182, 0, 206, 154, 0, 4, 177, 42, 182, 0, 210, 42, 4, 16, 60, 182, 1, 19, 62, 42, 180, 0, 47]
abbrev dktX3_readsFlight_3 : List UInt8 := dkwX3_readsFlight_3 ++ dktX3_readsFlight_4
def dkwX3_readsFlight_2 : List UInt8 := [159, 0, 17, 42, 180, 0, 47, 16, 10, 27, 104, 28, 96, 46, 153, 0, 8, 42, 7, 182, 0, 213, 42]
abbrev dktX3_readsFlight_2 : List UInt8 := dkwX3_readsFlight_2 ++ dktX3_readsFlight_3
def dkwX3_readsFlight_1 : List UInt8 := [182, 0, 210, 42, 182, 1, 16, 60, 42, 182, 0, 219, 61, 42, 182, 0, 206, 153, 0, 27, 27, 28]
abbrev dktX3_readsFlight_1 : List UInt8 := dkwX3_readsFlight_1 ++ dktX3_readsFlight_2
def dkwX3_readsFlight_0 : List UInt8 := [42, 180, 1, 13, 16, 18, 160, 0, 8, 42, 5, 182, 0, 213, 42, 182, 0, 206, 154, 0, 4, 177, 42]
abbrev dktX3_readsFlight_0 : List UInt8 := dkwX3_readsFlight_0 ++ dktX3_readsFlight_1
theorem dksX3_readsFlight_0 : cX3_readsFlight.data.toList.drop 0 = dktX3_readsFlight_0 := by decide +kernel
theorem dksX3_readsFlight_1 : cX3_readsFlight.data.toList.drop 23 = dktX3_readsFlight_1 := dk_seg dksX3_readsFlight_0 23 rfl rfl
theorem dksX3_readsFlight_2 : cX3_readsFlight.data.toList.drop 45 = dktX3_readsFlight_2 := dk_seg dksX3_readsFlight_1 22 rfl rfl
theorem dksX3_readsFlight_3 : cX3_readsFlight.data.toList.drop 68 = dktX3_readsFlight_3 := dk_seg dksX3_readsFlight_2 23 rfl rfl
theorem dksX3_readsFlight_4 : cX3_readsFlight.data.toList.drop 91 = dktX3_readsFlight_4 := dk_seg dksX3_readsFlight_3 23 rfl rfl
theorem dksX3_readsFlight_5 : cX3_readsFlight.data.toList.drop 113 = dktX3_readsFlight_5 := dk_seg dksX3_readsFlight_4 22 rfl rfl
theorem dX3_readsFlight_0 : decode cX3_readsFlight 0 = .ok (.aload_n 0, 1) := dk_42 (dk_at dksX3_readsFlight_0 0 rfl rfl)
theorem dX3_readsFlight_1 : decode cX3_readsFlight 1 = .ok (.getfield 269, 3) := dk_180 1 13 (dk_at dksX3_readsFlight_0 1 rfl rfl)
theorem dX3_readsFlight_4 : decode cX3_readsFlight 4 = .ok (.bipush 18, 2) := dk_16 18 (dk_at dksX3_readsFlight_0 4 rfl rfl)
theorem dX3_readsFlight_6 : decode cX3_readsFlight 6 = .ok (.if_icmp .ne 8, 3) := dk_160 0 8 (dk_at dksX3_readsFlight_0 6 rfl rfl)
theorem dX3_readsFlight_9 : decode cX3_readsFlight 9 = .ok (.aload_n 0, 1) := dk_42 (dk_at dksX3_readsFlight_0 9 rfl rfl)
theorem dX3_readsFlight_10 : decode cX3_readsFlight 10 = .ok (.iconst 2, 1) := dk_5 (dk_at dksX3_readsFlight_0 10 rfl rfl)
theorem dX3_readsFlight_11 : decode cX3_readsFlight 11 = .ok (.invokevirtual 213, 3) := dk_182 0 213 (dk_at dksX3_readsFlight_0 11 rfl rfl)
theorem dX3_readsFlight_14 : decode cX3_readsFlight 14 = .ok (.aload_n 0, 1) := dk_42 (dk_at dksX3_readsFlight_0 14 rfl rfl)
theorem dX3_readsFlight_15 : decode cX3_readsFlight 15 = .ok (.invokevirtual 206, 3) := dk_182 0 206 (dk_at dksX3_readsFlight_0 15 rfl rfl)
theorem dX3_readsFlight_18 : decode cX3_readsFlight 18 = .ok (.ifCond .ne 4, 3) := dk_154 0 4 (dk_at dksX3_readsFlight_0 18 rfl rfl)
theorem dX3_readsFlight_21 : decode cX3_readsFlight 21 = .ok (.return_, 1) := dk_177 (dk_at dksX3_readsFlight_0 21 rfl rfl)
theorem dX3_readsFlight_22 : decode cX3_readsFlight 22 = .ok (.aload_n 0, 1) := dk_42 (dk_at dksX3_readsFlight_0 22 rfl rfl)
theorem dX3_readsFlight_23 : decode cX3_readsFlight 23 = .ok (.invokevirtual 210, 3) := dk_182 0 210 (dk_at dksX3_readsFlight_1 0 rfl rfl)
theorem dX3_readsFlight_26 : decode cX3_readsFlight 26 = .ok (.aload_n 0, 1) := dk_42 (dk_at dksX3_readsFlight_1 3 rfl rfl)
theorem dX3_readsFlight_27 : decode cX3_readsFlight 27 = .ok (.invokevirtual 272, 3) := dk_182 1 16 (dk_at dksX3_readsFlight_1 4 rfl rfl)
theorem dX3_readsFlight_30 : decode cX3_readsFlight 30 = .ok (.istore_n 1, 1) := dk_60 (dk_at dksX3_readsFlight_1 7 rfl rfl)
theorem dX3_readsFlight_31 : decode cX3_readsFlight 31 = .ok (.aload_n 0, 1) := dk_42 (dk_at dksX3_readsFlight_1 8 rfl rfl)
theorem dX3_readsFlight_32 : decode cX3_readsFlight 32 = .ok (.invokevirtual 219, 3) := dk_182 0 219 (dk_at dksX3_readsFlight_1 9 rfl rfl)
theorem dX3_readsFlight_35 : decode cX3_readsFlight 35 = .ok (.istore_n 2, 1) := dk_61 (dk_at dksX3_readsFlight_1 12 rfl rfl)
theorem dX3_readsFlight_36 : decode cX3_readsFlight 36 = .ok (.aload_n 0, 1) := dk_42 (dk_at dksX3_readsFlight_1 13 rfl rfl)
theorem dX3_readsFlight_37 : decode cX3_readsFlight 37 = .ok (.invokevirtual 206, 3) := dk_182 0 206 (dk_at dksX3_readsFlight_1 14 rfl rfl)
theorem dX3_readsFlight_40 : decode cX3_readsFlight 40 = .ok (.ifCond .eq 27, 3) := dk_153 0 27 (dk_at dksX3_readsFlight_1 17 rfl rfl)
theorem dX3_readsFlight_43 : decode cX3_readsFlight 43 = .ok (.iload_n 1, 1) := dk_27 (dk_at dksX3_readsFlight_1 20 rfl rfl)
theorem dX3_readsFlight_44 : decode cX3_readsFlight 44 = .ok (.iload_n 2, 1) := dk_28 (dk_at dksX3_readsFlight_1 21 rfl rfl)
theorem dX3_readsFlight_45 : decode cX3_readsFlight 45 = .ok (.if_icmp .eq 17, 3) := dk_159 0 17 (dk_at dksX3_readsFlight_2 0 rfl rfl)
theorem dX3_readsFlight_48 : decode cX3_readsFlight 48 = .ok (.aload_n 0, 1) := dk_42 (dk_at dksX3_readsFlight_2 3 rfl rfl)
theorem dX3_readsFlight_49 : decode cX3_readsFlight 49 = .ok (.getfield 47, 3) := dk_180 0 47 (dk_at dksX3_readsFlight_2 4 rfl rfl)
theorem dX3_readsFlight_52 : decode cX3_readsFlight 52 = .ok (.bipush 10, 2) := dk_16 10 (dk_at dksX3_readsFlight_2 7 rfl rfl)
theorem dX3_readsFlight_54 : decode cX3_readsFlight 54 = .ok (.iload_n 1, 1) := dk_27 (dk_at dksX3_readsFlight_2 9 rfl rfl)
theorem dX3_readsFlight_55 : decode cX3_readsFlight 55 = .ok (.imul, 1) := dk_104 (dk_at dksX3_readsFlight_2 10 rfl rfl)
theorem dX3_readsFlight_56 : decode cX3_readsFlight 56 = .ok (.iload_n 2, 1) := dk_28 (dk_at dksX3_readsFlight_2 11 rfl rfl)
theorem dX3_readsFlight_57 : decode cX3_readsFlight 57 = .ok (.iadd, 1) := dk_96 (dk_at dksX3_readsFlight_2 12 rfl rfl)
theorem dX3_readsFlight_58 : decode cX3_readsFlight 58 = .ok (.iaload, 1) := dk_46 (dk_at dksX3_readsFlight_2 13 rfl rfl)
theorem dX3_readsFlight_59 : decode cX3_readsFlight 59 = .ok (.ifCond .eq 8, 3) := dk_153 0 8 (dk_at dksX3_readsFlight_2 14 rfl rfl)
theorem dX3_readsFlight_62 : decode cX3_readsFlight 62 = .ok (.aload_n 0, 1) := dk_42 (dk_at dksX3_readsFlight_2 17 rfl rfl)
theorem dX3_readsFlight_63 : decode cX3_readsFlight 63 = .ok (.iconst 4, 1) := dk_7 (dk_at dksX3_readsFlight_2 18 rfl rfl)
theorem dX3_readsFlight_64 : decode cX3_readsFlight 64 = .ok (.invokevirtual 213, 3) := dk_182 0 213 (dk_at dksX3_readsFlight_2 19 rfl rfl)
theorem dX3_readsFlight_67 : decode cX3_readsFlight 67 = .ok (.aload_n 0, 1) := dk_42 (dk_at dksX3_readsFlight_2 22 rfl rfl)
theorem dX3_readsFlight_68 : decode cX3_readsFlight 68 = .ok (.invokevirtual 206, 3) := dk_182 0 206 (dk_at dksX3_readsFlight_3 0 rfl rfl)
theorem dX3_readsFlight_71 : decode cX3_readsFlight 71 = .ok (.ifCond .ne 4, 3) := dk_154 0 4 (dk_at dksX3_readsFlight_3 3 rfl rfl)
theorem dX3_readsFlight_74 : decode cX3_readsFlight 74 = .ok (.return_, 1) := dk_177 (dk_at dksX3_readsFlight_3 6 rfl rfl)
theorem dX3_readsFlight_75 : decode cX3_readsFlight 75 = .ok (.aload_n 0, 1) := dk_42 (dk_at dksX3_readsFlight_3 7 rfl rfl)
theorem dX3_readsFlight_76 : decode cX3_readsFlight 76 = .ok (.invokevirtual 210, 3) := dk_182 0 210 (dk_at dksX3_readsFlight_3 8 rfl rfl)
theorem dX3_readsFlight_79 : decode cX3_readsFlight 79 = .ok (.aload_n 0, 1) := dk_42 (dk_at dksX3_readsFlight_3 11 rfl rfl)
theorem dX3_readsFlight_80 : decode cX3_readsFlight 80 = .ok (.iconst 1, 1) := dk_4 (dk_at dksX3_readsFlight_3 12 rfl rfl)
theorem dX3_readsFlight_81 : decode cX3_readsFlight 81 = .ok (.bipush 60, 2) := dk_16 60 (dk_at dksX3_readsFlight_3 13 rfl rfl)
theorem dX3_readsFlight_83 : decode cX3_readsFlight 83 = .ok (.invokevirtual 275, 3) := dk_182 1 19 (dk_at dksX3_readsFlight_3 15 rfl rfl)
theorem dX3_readsFlight_86 : decode cX3_readsFlight 86 = .ok (.istore_n 3, 1) := dk_62 (dk_at dksX3_readsFlight_3 18 rfl rfl)
theorem dX3_readsFlight_87 : decode cX3_readsFlight 87 = .ok (.aload_n 0, 1) := dk_42 (dk_at dksX3_readsFlight_3 19 rfl rfl)
theorem dX3_readsFlight_88 : decode cX3_readsFlight 88 = .ok (.getfield 47, 3) := dk_180 0 47 (dk_at dksX3_readsFlight_3 20 rfl rfl)
theorem dX3_readsFlight_91 : decode cX3_readsFlight 91 = .ok (.bipush 10, 2) := dk_16 10 (dk_at dksX3_readsFlight_4 0 rfl rfl)
theorem dX3_readsFlight_93 : decode cX3_readsFlight 93 = .ok (.iload_n 1, 1) := dk_27 (dk_at dksX3_readsFlight_4 2 rfl rfl)
theorem dX3_readsFlight_94 : decode cX3_readsFlight 94 = .ok (.imul, 1) := dk_104 (dk_at dksX3_readsFlight_4 3 rfl rfl)
theorem dX3_readsFlight_95 : decode cX3_readsFlight 95 = .ok (.iload_n 2, 1) := dk_28 (dk_at dksX3_readsFlight_4 4 rfl rfl)
theorem dX3_readsFlight_96 : decode cX3_readsFlight 96 = .ok (.iadd, 1) := dk_96 (dk_at dksX3_readsFlight_4 5 rfl rfl)
theorem dX3_readsFlight_97 : decode cX3_readsFlight 97 = .ok (.iload_n 3, 1) := dk_29 (dk_at dksX3_readsFlight_4 6 rfl rfl)
theorem dX3_readsFlight_98 : decode cX3_readsFlight 98 = .ok (.iastore, 1) := dk_79 (dk_at dksX3_readsFlight_4 7 rfl rfl)
theorem dX3_readsFlight_99 : decode cX3_readsFlight 99 = .ok (.aload_n 0, 1) := dk_42 (dk_at dksX3_readsFlight_4 8 rfl rfl)
theorem dX3_readsFlight_100 : decode cX3_readsFlight 100 = .ok (.getfield 47, 3) := dk_180 0 47 (dk_at dksX3_readsFlight_4 9 rfl rfl)
theorem dX3_readsFlight_103 : decode cX3_readsFlight 103 = .ok (.bipush 10, 2) := dk_16 10 (dk_at dksX3_readsFlight_4 12 rfl rfl)
theorem dX3_readsFlight_105 : decode cX3_readsFlight 105 = .ok (.iload_n 2, 1) := dk_28 (dk_at dksX3_readsFlight_4 14 rfl rfl)
theorem dX3_readsFlight_106 : decode cX3_readsFlight 106 = .ok (.imul, 1) := dk_104 (dk_at dksX3_readsFlight_4 15 rfl rfl)
theorem dX3_readsFlight_107 : decode cX3_readsFlight 107 = .ok (.iload_n 1, 1) := dk_27 (dk_at dksX3_readsFlight_4 16 rfl rfl)
theorem dX3_readsFlight_108 : decode cX3_readsFlight 108 = .ok (.iadd, 1) := dk_96 (dk_at dksX3_readsFlight_4 17 rfl rfl)
theorem dX3_readsFlight_109 : decode cX3_readsFlight 109 = .ok (.iload_n 3, 1) := dk_29 (dk_at dksX3_readsFlight_4 18 rfl rfl)
theorem dX3_readsFlight_110 : decode cX3_readsFlight 110 = .ok (.iastore, 1) := dk_79 (dk_at dksX3_readsFlight_4 19 rfl rfl)
theorem dX3_readsFlight_111 : decode cX3_readsFlight 111 = .ok (.aload_n 0, 1) := dk_42 (dk_at dksX3_readsFlight_4 20 rfl rfl)
theorem dX3_readsFlight_112 : decode cX3_readsFlight 112 = .ok (.dup, 1) := dk_89 (dk_at dksX3_readsFlight_4 21 rfl rfl)
theorem dX3_readsFlight_113 : decode cX3_readsFlight 113 = .ok (.getfield 269, 3) := dk_180 1 13 (dk_at dksX3_readsFlight_5 0 rfl rfl)
theorem dX3_readsFlight_116 : decode cX3_readsFlight 116 = .ok (.iconst 1, 1) := dk_4 (dk_at dksX3_readsFlight_5 3 rfl rfl)
theorem dX3_readsFlight_117 : decode cX3_readsFlight 117 = .ok (.iadd, 1) := dk_96 (dk_at dksX3_readsFlight_5 4 rfl rfl)
theorem dX3_readsFlight_118 : decode cX3_readsFlight 118 = .ok (.putfield 269, 3) := dk_181 1 13 (dk_at dksX3_readsFlight_5 5 rfl rfl)
theorem dX3_readsFlight_121 : decode cX3_readsFlight 121 = .ok (.return_, 1) := dk_177 (dk_at dksX3_readsFlight_5 8 rfl rfl)
abbrev cX3_roofNext : ByteArray := prog_14_method_23_code
def yX3_roofNext : MethodName := ⟨RX3, "roofNext", "()I"⟩
def dkwX3_roofNext_0 : List UInt8 := [42, 182, 0, 219, 60, 42, 182, 0, 206, 153, 0, 7, 42, 182, 0, 210, 27, 172]
abbrev dktX3_roofNext_0 : List UInt8 := dkwX3_roofNext_0 ++ []
theorem dksX3_roofNext_0 : cX3_roofNext.data.toList.drop 0 = dktX3_roofNext_0 := by decide +kernel
theorem dX3_roofNext_0 : decode cX3_roofNext 0 = .ok (.aload_n 0, 1) := dk_42 (dk_at dksX3_roofNext_0 0 rfl rfl)
theorem dX3_roofNext_1 : decode cX3_roofNext 1 = .ok (.invokevirtual 219, 3) := dk_182 0 219 (dk_at dksX3_roofNext_0 1 rfl rfl)
theorem dX3_roofNext_4 : decode cX3_roofNext 4 = .ok (.istore_n 1, 1) := dk_60 (dk_at dksX3_roofNext_0 4 rfl rfl)
theorem dX3_roofNext_5 : decode cX3_roofNext 5 = .ok (.aload_n 0, 1) := dk_42 (dk_at dksX3_roofNext_0 5 rfl rfl)
theorem dX3_roofNext_6 : decode cX3_roofNext 6 = .ok (.invokevirtual 206, 3) := dk_182 0 206 (dk_at dksX3_roofNext_0 6 rfl rfl)
theorem dX3_roofNext_9 : decode cX3_roofNext 9 = .ok (.ifCond .eq 7, 3) := dk_153 0 7 (dk_at dksX3_roofNext_0 9 rfl rfl)
theorem dX3_roofNext_12 : decode cX3_roofNext 12 = .ok (.aload_n 0, 1) := dk_42 (dk_at dksX3_roofNext_0 12 rfl rfl)
theorem dX3_roofNext_13 : decode cX3_roofNext 13 = .ok (.invokevirtual 210, 3) := dk_182 0 210 (dk_at dksX3_roofNext_0 13 rfl rfl)
theorem dX3_roofNext_16 : decode cX3_roofNext 16 = .ok (.iload_n 1, 1) := dk_27 (dk_at dksX3_roofNext_0 16 rfl rfl)
theorem dX3_roofNext_17 : decode cX3_roofNext 17 = .ok (.ireturn, 1) := dk_172 (dk_at dksX3_roofNext_0 17 rfl rfl)
abbrev cX3_roofHere : ByteArray := prog_14_method_22_code
def yX3_roofHere : MethodName := ⟨RX3, "roofHere", "()I"⟩
def dkwX3_roofHere_3 : List UInt8 := [167, 0, 4, 3, 172]
abbrev dktX3_roofHere_3 : List UInt8 := dkwX3_roofHere_3 ++ []
def dkwX3_roofHere_2 : List UInt8 := [180, 0, 216, 161, 0, 8, 42, 6, 182, 0, 213, 42, 182, 0, 206, 153, 0, 10, 42, 180, 0, 174]
abbrev dktX3_roofHere_2 : List UInt8 := dkwX3_roofHere_2 ++ dktX3_roofHere_3
def dkwX3_roofHere_1 : List UInt8 := [167, 0, 35, 42, 180, 0, 190, 7, 164, 0, 11, 42, 5, 182, 0, 213, 167, 0, 19, 42, 180, 0, 174, 42]
abbrev dktX3_roofHere_1 : List UInt8 := dkwX3_roofHere_1 ++ dktX3_roofHere_2
def dkwX3_roofHere_0 : List UInt8 := [42, 182, 0, 206, 154, 0, 5, 3, 172, 42, 180, 0, 180, 5, 159, 0, 11, 42, 4, 182, 0, 213]
abbrev dktX3_roofHere_0 : List UInt8 := dkwX3_roofHere_0 ++ dktX3_roofHere_1
theorem dksX3_roofHere_0 : cX3_roofHere.data.toList.drop 0 = dktX3_roofHere_0 := by decide +kernel
theorem dksX3_roofHere_1 : cX3_roofHere.data.toList.drop 22 = dktX3_roofHere_1 := dk_seg dksX3_roofHere_0 22 rfl rfl
theorem dksX3_roofHere_2 : cX3_roofHere.data.toList.drop 46 = dktX3_roofHere_2 := dk_seg dksX3_roofHere_1 24 rfl rfl
theorem dksX3_roofHere_3 : cX3_roofHere.data.toList.drop 68 = dktX3_roofHere_3 := dk_seg dksX3_roofHere_2 22 rfl rfl
theorem dX3_roofHere_0 : decode cX3_roofHere 0 = .ok (.aload_n 0, 1) := dk_42 (dk_at dksX3_roofHere_0 0 rfl rfl)
theorem dX3_roofHere_1 : decode cX3_roofHere 1 = .ok (.invokevirtual 206, 3) := dk_182 0 206 (dk_at dksX3_roofHere_0 1 rfl rfl)
theorem dX3_roofHere_4 : decode cX3_roofHere 4 = .ok (.ifCond .ne 5, 3) := dk_154 0 5 (dk_at dksX3_roofHere_0 4 rfl rfl)
theorem dX3_roofHere_7 : decode cX3_roofHere 7 = .ok (.iconst 0, 1) := dk_3 (dk_at dksX3_roofHere_0 7 rfl rfl)
theorem dX3_roofHere_8 : decode cX3_roofHere 8 = .ok (.ireturn, 1) := dk_172 (dk_at dksX3_roofHere_0 8 rfl rfl)
theorem dX3_roofHere_9 : decode cX3_roofHere 9 = .ok (.aload_n 0, 1) := dk_42 (dk_at dksX3_roofHere_0 9 rfl rfl)
theorem dX3_roofHere_10 : decode cX3_roofHere 10 = .ok (.getfield 180, 3) := dk_180 0 180 (dk_at dksX3_roofHere_0 10 rfl rfl)
theorem dX3_roofHere_13 : decode cX3_roofHere 13 = .ok (.iconst 2, 1) := dk_5 (dk_at dksX3_roofHere_0 13 rfl rfl)
theorem dX3_roofHere_14 : decode cX3_roofHere 14 = .ok (.if_icmp .eq 11, 3) := dk_159 0 11 (dk_at dksX3_roofHere_0 14 rfl rfl)
theorem dX3_roofHere_17 : decode cX3_roofHere 17 = .ok (.aload_n 0, 1) := dk_42 (dk_at dksX3_roofHere_0 17 rfl rfl)
theorem dX3_roofHere_18 : decode cX3_roofHere 18 = .ok (.iconst 1, 1) := dk_4 (dk_at dksX3_roofHere_0 18 rfl rfl)
theorem dX3_roofHere_19 : decode cX3_roofHere 19 = .ok (.invokevirtual 213, 3) := dk_182 0 213 (dk_at dksX3_roofHere_0 19 rfl rfl)
theorem dX3_roofHere_22 : decode cX3_roofHere 22 = .ok (.goto 35, 3) := dk_167 0 35 (dk_at dksX3_roofHere_1 0 rfl rfl)
theorem dX3_roofHere_25 : decode cX3_roofHere 25 = .ok (.aload_n 0, 1) := dk_42 (dk_at dksX3_roofHere_1 3 rfl rfl)
theorem dX3_roofHere_26 : decode cX3_roofHere 26 = .ok (.getfield 190, 3) := dk_180 0 190 (dk_at dksX3_roofHere_1 4 rfl rfl)
theorem dX3_roofHere_29 : decode cX3_roofHere 29 = .ok (.iconst 4, 1) := dk_7 (dk_at dksX3_roofHere_1 7 rfl rfl)
theorem dX3_roofHere_30 : decode cX3_roofHere 30 = .ok (.if_icmp .le 11, 3) := dk_164 0 11 (dk_at dksX3_roofHere_1 8 rfl rfl)
theorem dX3_roofHere_33 : decode cX3_roofHere 33 = .ok (.aload_n 0, 1) := dk_42 (dk_at dksX3_roofHere_1 11 rfl rfl)
theorem dX3_roofHere_34 : decode cX3_roofHere 34 = .ok (.iconst 2, 1) := dk_5 (dk_at dksX3_roofHere_1 12 rfl rfl)
theorem dX3_roofHere_35 : decode cX3_roofHere 35 = .ok (.invokevirtual 213, 3) := dk_182 0 213 (dk_at dksX3_roofHere_1 13 rfl rfl)
theorem dX3_roofHere_38 : decode cX3_roofHere 38 = .ok (.goto 19, 3) := dk_167 0 19 (dk_at dksX3_roofHere_1 16 rfl rfl)
theorem dX3_roofHere_41 : decode cX3_roofHere 41 = .ok (.aload_n 0, 1) := dk_42 (dk_at dksX3_roofHere_1 19 rfl rfl)
theorem dX3_roofHere_42 : decode cX3_roofHere 42 = .ok (.getfield 174, 3) := dk_180 0 174 (dk_at dksX3_roofHere_1 20 rfl rfl)
theorem dX3_roofHere_45 : decode cX3_roofHere 45 = .ok (.aload_n 0, 1) := dk_42 (dk_at dksX3_roofHere_1 23 rfl rfl)
theorem dX3_roofHere_46 : decode cX3_roofHere 46 = .ok (.getfield 216, 3) := dk_180 0 216 (dk_at dksX3_roofHere_2 0 rfl rfl)
theorem dX3_roofHere_49 : decode cX3_roofHere 49 = .ok (.if_icmp .lt 8, 3) := dk_161 0 8 (dk_at dksX3_roofHere_2 3 rfl rfl)
theorem dX3_roofHere_52 : decode cX3_roofHere 52 = .ok (.aload_n 0, 1) := dk_42 (dk_at dksX3_roofHere_2 6 rfl rfl)
theorem dX3_roofHere_53 : decode cX3_roofHere 53 = .ok (.iconst 3, 1) := dk_6 (dk_at dksX3_roofHere_2 7 rfl rfl)
theorem dX3_roofHere_54 : decode cX3_roofHere 54 = .ok (.invokevirtual 213, 3) := dk_182 0 213 (dk_at dksX3_roofHere_2 8 rfl rfl)
theorem dX3_roofHere_57 : decode cX3_roofHere 57 = .ok (.aload_n 0, 1) := dk_42 (dk_at dksX3_roofHere_2 11 rfl rfl)
theorem dX3_roofHere_58 : decode cX3_roofHere 58 = .ok (.invokevirtual 206, 3) := dk_182 0 206 (dk_at dksX3_roofHere_2 12 rfl rfl)
theorem dX3_roofHere_61 : decode cX3_roofHere 61 = .ok (.ifCond .eq 10, 3) := dk_153 0 10 (dk_at dksX3_roofHere_2 15 rfl rfl)
theorem dX3_roofHere_64 : decode cX3_roofHere 64 = .ok (.aload_n 0, 1) := dk_42 (dk_at dksX3_roofHere_2 18 rfl rfl)
theorem dX3_roofHere_65 : decode cX3_roofHere 65 = .ok (.getfield 174, 3) := dk_180 0 174 (dk_at dksX3_roofHere_2 19 rfl rfl)
theorem dX3_roofHere_68 : decode cX3_roofHere 68 = .ok (.goto 4, 3) := dk_167 0 4 (dk_at dksX3_roofHere_3 0 rfl rfl)
theorem dX3_roofHere_71 : decode cX3_roofHere 71 = .ok (.iconst 0, 1) := dk_3 (dk_at dksX3_roofHere_3 3 rfl rfl)
theorem dX3_roofHere_72 : decode cX3_roofHere 72 = .ok (.ireturn, 1) := dk_172 (dk_at dksX3_roofHere_3 4 rfl rfl)
abbrev cX3_readsOwl : ByteArray := prog_14_method_36_code
def yX3_readsOwl : MethodName := ⟨RX3, "readsOwl", "(I)V"⟩
def dkwX3_readsOwl_9 : List UInt8 := [153, 0, 13, 42, 89, 180, 1, 23, 4, 96, 181, 1, 23, 177]
abbrev dktX3_readsOwl_9 : List UInt8 := dkwX3_readsOwl_9 ++ []
def dkwX3_readsOwl_8 : List UInt8 := [182, 0, 210, 42, 180, 0, 180, 5, 160, 0, 7, 4, 167, 0, 4, 3, 62, 167, 255, 115, 42, 182, 0, 206]
abbrev dktX3_readsOwl_8 : List UInt8 := dkwX3_readsOwl_8 ++ dktX3_readsOwl_9
def dkwX3_readsOwl_7 : List UInt8 := [104, 42, 180, 0, 56, 28, 46, 96, 21, 4, 79, 42, 180, 0, 56, 28, 92, 46, 4, 96, 79, 42]
abbrev dktX3_readsOwl_7 : List UInt8 := dkwX3_readsOwl_7 ++ dktX3_readsOwl_8
def dkwX3_readsOwl_6 : List UInt8 := [154, 0, 9, 42, 16, 6, 182, 0, 213, 42, 182, 0, 206, 154, 0, 4, 177, 42, 180, 0, 59, 16, 8, 28]
abbrev dktX3_readsOwl_6 : List UInt8 := dkwX3_readsOwl_6 ++ dktX3_readsOwl_7
def dkwX3_readsOwl_5 : List UInt8 := [42, 180, 0, 59, 16, 8, 28, 104, 42, 180, 0, 56, 28, 46, 96, 4, 100, 46, 104, 21, 4, 96, 46]
abbrev dktX3_readsOwl_5 : List UInt8 := dkwX3_readsOwl_5 ++ dktX3_readsOwl_6
def dkwX3_readsOwl_4 : List UInt8 := [54, 4, 42, 182, 0, 206, 153, 0, 50, 42, 180, 0, 56, 28, 46, 158, 0, 41, 42, 180, 0, 47, 16, 10]
abbrev dktX3_readsOwl_4 : List UInt8 := dkwX3_readsOwl_4 ++ dktX3_readsOwl_5
def dkwX3_readsOwl_3 : List UInt8 := [153, 0, 136, 42, 180, 0, 56, 28, 46, 16, 8, 160, 0, 8, 42, 5, 182, 0, 213, 42, 182, 0, 219]
abbrev dktX3_readsOwl_3 : List UInt8 := dkwX3_readsOwl_3 ++ dktX3_readsOwl_4
def dkwX3_readsOwl_2 : List UInt8 := [17, 1, 44, 182, 1, 19, 79, 42, 180, 0, 56, 28, 3, 79, 4, 62, 29, 153, 0, 143, 42, 182, 0, 206]
abbrev dktX3_readsOwl_2 : List UInt8 := dkwX3_readsOwl_2 ++ dktX3_readsOwl_3
def dkwX3_readsOwl_1 : List UInt8 := [182, 0, 210, 42, 180, 1, 23, 61, 42, 180, 0, 50, 28, 27, 79, 42, 180, 0, 53, 28, 42, 3]
abbrev dktX3_readsOwl_1 : List UInt8 := dkwX3_readsOwl_1 ++ dktX3_readsOwl_2
def dkwX3_readsOwl_0 : List UInt8 := [42, 180, 1, 23, 8, 160, 0, 8, 42, 5, 182, 0, 213, 42, 182, 0, 206, 154, 0, 4, 177, 42]
abbrev dktX3_readsOwl_0 : List UInt8 := dkwX3_readsOwl_0 ++ dktX3_readsOwl_1
theorem dksX3_readsOwl_0 : cX3_readsOwl.data.toList.drop 0 = dktX3_readsOwl_0 := by decide +kernel
theorem dksX3_readsOwl_1 : cX3_readsOwl.data.toList.drop 22 = dktX3_readsOwl_1 := dk_seg dksX3_readsOwl_0 22 rfl rfl
theorem dksX3_readsOwl_2 : cX3_readsOwl.data.toList.drop 44 = dktX3_readsOwl_2 := dk_seg dksX3_readsOwl_1 22 rfl rfl
theorem dksX3_readsOwl_3 : cX3_readsOwl.data.toList.drop 68 = dktX3_readsOwl_3 := dk_seg dksX3_readsOwl_2 24 rfl rfl
theorem dksX3_readsOwl_4 : cX3_readsOwl.data.toList.drop 91 = dktX3_readsOwl_4 := dk_seg dksX3_readsOwl_3 23 rfl rfl
theorem dksX3_readsOwl_5 : cX3_readsOwl.data.toList.drop 115 = dktX3_readsOwl_5 := dk_seg dksX3_readsOwl_4 24 rfl rfl
theorem dksX3_readsOwl_6 : cX3_readsOwl.data.toList.drop 138 = dktX3_readsOwl_6 := dk_seg dksX3_readsOwl_5 23 rfl rfl
theorem dksX3_readsOwl_7 : cX3_readsOwl.data.toList.drop 162 = dktX3_readsOwl_7 := dk_seg dksX3_readsOwl_6 24 rfl rfl
theorem dksX3_readsOwl_8 : cX3_readsOwl.data.toList.drop 184 = dktX3_readsOwl_8 := dk_seg dksX3_readsOwl_7 22 rfl rfl
theorem dksX3_readsOwl_9 : cX3_readsOwl.data.toList.drop 208 = dktX3_readsOwl_9 := dk_seg dksX3_readsOwl_8 24 rfl rfl
theorem dX3_readsOwl_0 : decode cX3_readsOwl 0 = .ok (.aload_n 0, 1) := dk_42 (dk_at dksX3_readsOwl_0 0 rfl rfl)
theorem dX3_readsOwl_1 : decode cX3_readsOwl 1 = .ok (.getfield 279, 3) := dk_180 1 23 (dk_at dksX3_readsOwl_0 1 rfl rfl)
theorem dX3_readsOwl_4 : decode cX3_readsOwl 4 = .ok (.iconst 5, 1) := dk_8 (dk_at dksX3_readsOwl_0 4 rfl rfl)
theorem dX3_readsOwl_5 : decode cX3_readsOwl 5 = .ok (.if_icmp .ne 8, 3) := dk_160 0 8 (dk_at dksX3_readsOwl_0 5 rfl rfl)
theorem dX3_readsOwl_8 : decode cX3_readsOwl 8 = .ok (.aload_n 0, 1) := dk_42 (dk_at dksX3_readsOwl_0 8 rfl rfl)
theorem dX3_readsOwl_9 : decode cX3_readsOwl 9 = .ok (.iconst 2, 1) := dk_5 (dk_at dksX3_readsOwl_0 9 rfl rfl)
theorem dX3_readsOwl_10 : decode cX3_readsOwl 10 = .ok (.invokevirtual 213, 3) := dk_182 0 213 (dk_at dksX3_readsOwl_0 10 rfl rfl)
theorem dX3_readsOwl_13 : decode cX3_readsOwl 13 = .ok (.aload_n 0, 1) := dk_42 (dk_at dksX3_readsOwl_0 13 rfl rfl)
theorem dX3_readsOwl_14 : decode cX3_readsOwl 14 = .ok (.invokevirtual 206, 3) := dk_182 0 206 (dk_at dksX3_readsOwl_0 14 rfl rfl)
theorem dX3_readsOwl_17 : decode cX3_readsOwl 17 = .ok (.ifCond .ne 4, 3) := dk_154 0 4 (dk_at dksX3_readsOwl_0 17 rfl rfl)
theorem dX3_readsOwl_20 : decode cX3_readsOwl 20 = .ok (.return_, 1) := dk_177 (dk_at dksX3_readsOwl_0 20 rfl rfl)
theorem dX3_readsOwl_21 : decode cX3_readsOwl 21 = .ok (.aload_n 0, 1) := dk_42 (dk_at dksX3_readsOwl_0 21 rfl rfl)
theorem dX3_readsOwl_22 : decode cX3_readsOwl 22 = .ok (.invokevirtual 210, 3) := dk_182 0 210 (dk_at dksX3_readsOwl_1 0 rfl rfl)
theorem dX3_readsOwl_25 : decode cX3_readsOwl 25 = .ok (.aload_n 0, 1) := dk_42 (dk_at dksX3_readsOwl_1 3 rfl rfl)
theorem dX3_readsOwl_26 : decode cX3_readsOwl 26 = .ok (.getfield 279, 3) := dk_180 1 23 (dk_at dksX3_readsOwl_1 4 rfl rfl)
theorem dX3_readsOwl_29 : decode cX3_readsOwl 29 = .ok (.istore_n 2, 1) := dk_61 (dk_at dksX3_readsOwl_1 7 rfl rfl)
theorem dX3_readsOwl_30 : decode cX3_readsOwl 30 = .ok (.aload_n 0, 1) := dk_42 (dk_at dksX3_readsOwl_1 8 rfl rfl)
theorem dX3_readsOwl_31 : decode cX3_readsOwl 31 = .ok (.getfield 50, 3) := dk_180 0 50 (dk_at dksX3_readsOwl_1 9 rfl rfl)
theorem dX3_readsOwl_34 : decode cX3_readsOwl 34 = .ok (.iload_n 2, 1) := dk_28 (dk_at dksX3_readsOwl_1 12 rfl rfl)
theorem dX3_readsOwl_35 : decode cX3_readsOwl 35 = .ok (.iload_n 1, 1) := dk_27 (dk_at dksX3_readsOwl_1 13 rfl rfl)
theorem dX3_readsOwl_36 : decode cX3_readsOwl 36 = .ok (.iastore, 1) := dk_79 (dk_at dksX3_readsOwl_1 14 rfl rfl)
theorem dX3_readsOwl_37 : decode cX3_readsOwl 37 = .ok (.aload_n 0, 1) := dk_42 (dk_at dksX3_readsOwl_1 15 rfl rfl)
theorem dX3_readsOwl_38 : decode cX3_readsOwl 38 = .ok (.getfield 53, 3) := dk_180 0 53 (dk_at dksX3_readsOwl_1 16 rfl rfl)
theorem dX3_readsOwl_41 : decode cX3_readsOwl 41 = .ok (.iload_n 2, 1) := dk_28 (dk_at dksX3_readsOwl_1 19 rfl rfl)
theorem dX3_readsOwl_42 : decode cX3_readsOwl 42 = .ok (.aload_n 0, 1) := dk_42 (dk_at dksX3_readsOwl_1 20 rfl rfl)
theorem dX3_readsOwl_43 : decode cX3_readsOwl 43 = .ok (.iconst 0, 1) := dk_3 (dk_at dksX3_readsOwl_1 21 rfl rfl)
theorem dX3_readsOwl_44 : decode cX3_readsOwl 44 = .ok (.sipush 300, 3) := dk_17 1 44 (dk_at dksX3_readsOwl_2 0 rfl rfl)
theorem dX3_readsOwl_47 : decode cX3_readsOwl 47 = .ok (.invokevirtual 275, 3) := dk_182 1 19 (dk_at dksX3_readsOwl_2 3 rfl rfl)
theorem dX3_readsOwl_50 : decode cX3_readsOwl 50 = .ok (.iastore, 1) := dk_79 (dk_at dksX3_readsOwl_2 6 rfl rfl)
theorem dX3_readsOwl_51 : decode cX3_readsOwl 51 = .ok (.aload_n 0, 1) := dk_42 (dk_at dksX3_readsOwl_2 7 rfl rfl)
theorem dX3_readsOwl_52 : decode cX3_readsOwl 52 = .ok (.getfield 56, 3) := dk_180 0 56 (dk_at dksX3_readsOwl_2 8 rfl rfl)
theorem dX3_readsOwl_55 : decode cX3_readsOwl 55 = .ok (.iload_n 2, 1) := dk_28 (dk_at dksX3_readsOwl_2 11 rfl rfl)
theorem dX3_readsOwl_56 : decode cX3_readsOwl 56 = .ok (.iconst 0, 1) := dk_3 (dk_at dksX3_readsOwl_2 12 rfl rfl)
theorem dX3_readsOwl_57 : decode cX3_readsOwl 57 = .ok (.iastore, 1) := dk_79 (dk_at dksX3_readsOwl_2 13 rfl rfl)
theorem dX3_readsOwl_58 : decode cX3_readsOwl 58 = .ok (.iconst 1, 1) := dk_4 (dk_at dksX3_readsOwl_2 14 rfl rfl)
theorem dX3_readsOwl_59 : decode cX3_readsOwl 59 = .ok (.istore_n 3, 1) := dk_62 (dk_at dksX3_readsOwl_2 15 rfl rfl)
theorem dX3_readsOwl_60 : decode cX3_readsOwl 60 = .ok (.iload_n 3, 1) := dk_29 (dk_at dksX3_readsOwl_2 16 rfl rfl)
theorem dX3_readsOwl_61 : decode cX3_readsOwl 61 = .ok (.ifCond .eq 143, 3) := dk_153 0 143 (dk_at dksX3_readsOwl_2 17 rfl rfl)
theorem dX3_readsOwl_64 : decode cX3_readsOwl 64 = .ok (.aload_n 0, 1) := dk_42 (dk_at dksX3_readsOwl_2 20 rfl rfl)
theorem dX3_readsOwl_65 : decode cX3_readsOwl 65 = .ok (.invokevirtual 206, 3) := dk_182 0 206 (dk_at dksX3_readsOwl_2 21 rfl rfl)
theorem dX3_readsOwl_68 : decode cX3_readsOwl 68 = .ok (.ifCond .eq 136, 3) := dk_153 0 136 (dk_at dksX3_readsOwl_3 0 rfl rfl)
theorem dX3_readsOwl_71 : decode cX3_readsOwl 71 = .ok (.aload_n 0, 1) := dk_42 (dk_at dksX3_readsOwl_3 3 rfl rfl)
theorem dX3_readsOwl_72 : decode cX3_readsOwl 72 = .ok (.getfield 56, 3) := dk_180 0 56 (dk_at dksX3_readsOwl_3 4 rfl rfl)
theorem dX3_readsOwl_75 : decode cX3_readsOwl 75 = .ok (.iload_n 2, 1) := dk_28 (dk_at dksX3_readsOwl_3 7 rfl rfl)
theorem dX3_readsOwl_76 : decode cX3_readsOwl 76 = .ok (.iaload, 1) := dk_46 (dk_at dksX3_readsOwl_3 8 rfl rfl)
theorem dX3_readsOwl_77 : decode cX3_readsOwl 77 = .ok (.bipush 8, 2) := dk_16 8 (dk_at dksX3_readsOwl_3 9 rfl rfl)
theorem dX3_readsOwl_79 : decode cX3_readsOwl 79 = .ok (.if_icmp .ne 8, 3) := dk_160 0 8 (dk_at dksX3_readsOwl_3 11 rfl rfl)
theorem dX3_readsOwl_82 : decode cX3_readsOwl 82 = .ok (.aload_n 0, 1) := dk_42 (dk_at dksX3_readsOwl_3 14 rfl rfl)
theorem dX3_readsOwl_83 : decode cX3_readsOwl 83 = .ok (.iconst 2, 1) := dk_5 (dk_at dksX3_readsOwl_3 15 rfl rfl)
theorem dX3_readsOwl_84 : decode cX3_readsOwl 84 = .ok (.invokevirtual 213, 3) := dk_182 0 213 (dk_at dksX3_readsOwl_3 16 rfl rfl)
theorem dX3_readsOwl_87 : decode cX3_readsOwl 87 = .ok (.aload_n 0, 1) := dk_42 (dk_at dksX3_readsOwl_3 19 rfl rfl)
theorem dX3_readsOwl_88 : decode cX3_readsOwl 88 = .ok (.invokevirtual 219, 3) := dk_182 0 219 (dk_at dksX3_readsOwl_3 20 rfl rfl)
theorem dX3_readsOwl_91 : decode cX3_readsOwl 91 = .ok (.istore 4, 2) := dk_54 4 (dk_at dksX3_readsOwl_4 0 rfl rfl)
theorem dX3_readsOwl_93 : decode cX3_readsOwl 93 = .ok (.aload_n 0, 1) := dk_42 (dk_at dksX3_readsOwl_4 2 rfl rfl)
theorem dX3_readsOwl_94 : decode cX3_readsOwl 94 = .ok (.invokevirtual 206, 3) := dk_182 0 206 (dk_at dksX3_readsOwl_4 3 rfl rfl)
theorem dX3_readsOwl_97 : decode cX3_readsOwl 97 = .ok (.ifCond .eq 50, 3) := dk_153 0 50 (dk_at dksX3_readsOwl_4 6 rfl rfl)
theorem dX3_readsOwl_100 : decode cX3_readsOwl 100 = .ok (.aload_n 0, 1) := dk_42 (dk_at dksX3_readsOwl_4 9 rfl rfl)
theorem dX3_readsOwl_101 : decode cX3_readsOwl 101 = .ok (.getfield 56, 3) := dk_180 0 56 (dk_at dksX3_readsOwl_4 10 rfl rfl)
theorem dX3_readsOwl_104 : decode cX3_readsOwl 104 = .ok (.iload_n 2, 1) := dk_28 (dk_at dksX3_readsOwl_4 13 rfl rfl)
theorem dX3_readsOwl_105 : decode cX3_readsOwl 105 = .ok (.iaload, 1) := dk_46 (dk_at dksX3_readsOwl_4 14 rfl rfl)
theorem dX3_readsOwl_106 : decode cX3_readsOwl 106 = .ok (.ifCond .le 41, 3) := dk_158 0 41 (dk_at dksX3_readsOwl_4 15 rfl rfl)
theorem dX3_readsOwl_109 : decode cX3_readsOwl 109 = .ok (.aload_n 0, 1) := dk_42 (dk_at dksX3_readsOwl_4 18 rfl rfl)
theorem dX3_readsOwl_110 : decode cX3_readsOwl 110 = .ok (.getfield 47, 3) := dk_180 0 47 (dk_at dksX3_readsOwl_4 19 rfl rfl)
theorem dX3_readsOwl_113 : decode cX3_readsOwl 113 = .ok (.bipush 10, 2) := dk_16 10 (dk_at dksX3_readsOwl_4 22 rfl rfl)
theorem dX3_readsOwl_115 : decode cX3_readsOwl 115 = .ok (.aload_n 0, 1) := dk_42 (dk_at dksX3_readsOwl_5 0 rfl rfl)
theorem dX3_readsOwl_116 : decode cX3_readsOwl 116 = .ok (.getfield 59, 3) := dk_180 0 59 (dk_at dksX3_readsOwl_5 1 rfl rfl)
theorem dX3_readsOwl_119 : decode cX3_readsOwl 119 = .ok (.bipush 8, 2) := dk_16 8 (dk_at dksX3_readsOwl_5 4 rfl rfl)
theorem dX3_readsOwl_121 : decode cX3_readsOwl 121 = .ok (.iload_n 2, 1) := dk_28 (dk_at dksX3_readsOwl_5 6 rfl rfl)
theorem dX3_readsOwl_122 : decode cX3_readsOwl 122 = .ok (.imul, 1) := dk_104 (dk_at dksX3_readsOwl_5 7 rfl rfl)
theorem dX3_readsOwl_123 : decode cX3_readsOwl 123 = .ok (.aload_n 0, 1) := dk_42 (dk_at dksX3_readsOwl_5 8 rfl rfl)
theorem dX3_readsOwl_124 : decode cX3_readsOwl 124 = .ok (.getfield 56, 3) := dk_180 0 56 (dk_at dksX3_readsOwl_5 9 rfl rfl)
theorem dX3_readsOwl_127 : decode cX3_readsOwl 127 = .ok (.iload_n 2, 1) := dk_28 (dk_at dksX3_readsOwl_5 12 rfl rfl)
theorem dX3_readsOwl_128 : decode cX3_readsOwl 128 = .ok (.iaload, 1) := dk_46 (dk_at dksX3_readsOwl_5 13 rfl rfl)
theorem dX3_readsOwl_129 : decode cX3_readsOwl 129 = .ok (.iadd, 1) := dk_96 (dk_at dksX3_readsOwl_5 14 rfl rfl)
theorem dX3_readsOwl_130 : decode cX3_readsOwl 130 = .ok (.iconst 1, 1) := dk_4 (dk_at dksX3_readsOwl_5 15 rfl rfl)
theorem dX3_readsOwl_131 : decode cX3_readsOwl 131 = .ok (.isub, 1) := dk_100 (dk_at dksX3_readsOwl_5 16 rfl rfl)
theorem dX3_readsOwl_132 : decode cX3_readsOwl 132 = .ok (.iaload, 1) := dk_46 (dk_at dksX3_readsOwl_5 17 rfl rfl)
theorem dX3_readsOwl_133 : decode cX3_readsOwl 133 = .ok (.imul, 1) := dk_104 (dk_at dksX3_readsOwl_5 18 rfl rfl)
theorem dX3_readsOwl_134 : decode cX3_readsOwl 134 = .ok (.iload 4, 2) := dk_21 4 (dk_at dksX3_readsOwl_5 19 rfl rfl)
theorem dX3_readsOwl_136 : decode cX3_readsOwl 136 = .ok (.iadd, 1) := dk_96 (dk_at dksX3_readsOwl_5 21 rfl rfl)
theorem dX3_readsOwl_137 : decode cX3_readsOwl 137 = .ok (.iaload, 1) := dk_46 (dk_at dksX3_readsOwl_5 22 rfl rfl)
theorem dX3_readsOwl_138 : decode cX3_readsOwl 138 = .ok (.ifCond .ne 9, 3) := dk_154 0 9 (dk_at dksX3_readsOwl_6 0 rfl rfl)
theorem dX3_readsOwl_141 : decode cX3_readsOwl 141 = .ok (.aload_n 0, 1) := dk_42 (dk_at dksX3_readsOwl_6 3 rfl rfl)
theorem dX3_readsOwl_142 : decode cX3_readsOwl 142 = .ok (.bipush 6, 2) := dk_16 6 (dk_at dksX3_readsOwl_6 4 rfl rfl)
theorem dX3_readsOwl_144 : decode cX3_readsOwl 144 = .ok (.invokevirtual 213, 3) := dk_182 0 213 (dk_at dksX3_readsOwl_6 6 rfl rfl)
theorem dX3_readsOwl_147 : decode cX3_readsOwl 147 = .ok (.aload_n 0, 1) := dk_42 (dk_at dksX3_readsOwl_6 9 rfl rfl)
theorem dX3_readsOwl_148 : decode cX3_readsOwl 148 = .ok (.invokevirtual 206, 3) := dk_182 0 206 (dk_at dksX3_readsOwl_6 10 rfl rfl)
theorem dX3_readsOwl_151 : decode cX3_readsOwl 151 = .ok (.ifCond .ne 4, 3) := dk_154 0 4 (dk_at dksX3_readsOwl_6 13 rfl rfl)
theorem dX3_readsOwl_154 : decode cX3_readsOwl 154 = .ok (.return_, 1) := dk_177 (dk_at dksX3_readsOwl_6 16 rfl rfl)
theorem dX3_readsOwl_155 : decode cX3_readsOwl 155 = .ok (.aload_n 0, 1) := dk_42 (dk_at dksX3_readsOwl_6 17 rfl rfl)
theorem dX3_readsOwl_156 : decode cX3_readsOwl 156 = .ok (.getfield 59, 3) := dk_180 0 59 (dk_at dksX3_readsOwl_6 18 rfl rfl)
theorem dX3_readsOwl_159 : decode cX3_readsOwl 159 = .ok (.bipush 8, 2) := dk_16 8 (dk_at dksX3_readsOwl_6 21 rfl rfl)
theorem dX3_readsOwl_161 : decode cX3_readsOwl 161 = .ok (.iload_n 2, 1) := dk_28 (dk_at dksX3_readsOwl_6 23 rfl rfl)
theorem dX3_readsOwl_162 : decode cX3_readsOwl 162 = .ok (.imul, 1) := dk_104 (dk_at dksX3_readsOwl_7 0 rfl rfl)
theorem dX3_readsOwl_163 : decode cX3_readsOwl 163 = .ok (.aload_n 0, 1) := dk_42 (dk_at dksX3_readsOwl_7 1 rfl rfl)
theorem dX3_readsOwl_164 : decode cX3_readsOwl 164 = .ok (.getfield 56, 3) := dk_180 0 56 (dk_at dksX3_readsOwl_7 2 rfl rfl)
theorem dX3_readsOwl_167 : decode cX3_readsOwl 167 = .ok (.iload_n 2, 1) := dk_28 (dk_at dksX3_readsOwl_7 5 rfl rfl)
theorem dX3_readsOwl_168 : decode cX3_readsOwl 168 = .ok (.iaload, 1) := dk_46 (dk_at dksX3_readsOwl_7 6 rfl rfl)
theorem dX3_readsOwl_169 : decode cX3_readsOwl 169 = .ok (.iadd, 1) := dk_96 (dk_at dksX3_readsOwl_7 7 rfl rfl)
theorem dX3_readsOwl_170 : decode cX3_readsOwl 170 = .ok (.iload 4, 2) := dk_21 4 (dk_at dksX3_readsOwl_7 8 rfl rfl)
theorem dX3_readsOwl_172 : decode cX3_readsOwl 172 = .ok (.iastore, 1) := dk_79 (dk_at dksX3_readsOwl_7 10 rfl rfl)
theorem dX3_readsOwl_173 : decode cX3_readsOwl 173 = .ok (.aload_n 0, 1) := dk_42 (dk_at dksX3_readsOwl_7 11 rfl rfl)
theorem dX3_readsOwl_174 : decode cX3_readsOwl 174 = .ok (.getfield 56, 3) := dk_180 0 56 (dk_at dksX3_readsOwl_7 12 rfl rfl)
theorem dX3_readsOwl_177 : decode cX3_readsOwl 177 = .ok (.iload_n 2, 1) := dk_28 (dk_at dksX3_readsOwl_7 15 rfl rfl)
theorem dX3_readsOwl_178 : decode cX3_readsOwl 178 = .ok (.dup2, 1) := dk_92 (dk_at dksX3_readsOwl_7 16 rfl rfl)
theorem dX3_readsOwl_179 : decode cX3_readsOwl 179 = .ok (.iaload, 1) := dk_46 (dk_at dksX3_readsOwl_7 17 rfl rfl)
theorem dX3_readsOwl_180 : decode cX3_readsOwl 180 = .ok (.iconst 1, 1) := dk_4 (dk_at dksX3_readsOwl_7 18 rfl rfl)
theorem dX3_readsOwl_181 : decode cX3_readsOwl 181 = .ok (.iadd, 1) := dk_96 (dk_at dksX3_readsOwl_7 19 rfl rfl)
theorem dX3_readsOwl_182 : decode cX3_readsOwl 182 = .ok (.iastore, 1) := dk_79 (dk_at dksX3_readsOwl_7 20 rfl rfl)
theorem dX3_readsOwl_183 : decode cX3_readsOwl 183 = .ok (.aload_n 0, 1) := dk_42 (dk_at dksX3_readsOwl_7 21 rfl rfl)
theorem dX3_readsOwl_184 : decode cX3_readsOwl 184 = .ok (.invokevirtual 210, 3) := dk_182 0 210 (dk_at dksX3_readsOwl_8 0 rfl rfl)
theorem dX3_readsOwl_187 : decode cX3_readsOwl 187 = .ok (.aload_n 0, 1) := dk_42 (dk_at dksX3_readsOwl_8 3 rfl rfl)
theorem dX3_readsOwl_188 : decode cX3_readsOwl 188 = .ok (.getfield 180, 3) := dk_180 0 180 (dk_at dksX3_readsOwl_8 4 rfl rfl)
theorem dX3_readsOwl_191 : decode cX3_readsOwl 191 = .ok (.iconst 2, 1) := dk_5 (dk_at dksX3_readsOwl_8 7 rfl rfl)
theorem dX3_readsOwl_192 : decode cX3_readsOwl 192 = .ok (.if_icmp .ne 7, 3) := dk_160 0 7 (dk_at dksX3_readsOwl_8 8 rfl rfl)
theorem dX3_readsOwl_195 : decode cX3_readsOwl 195 = .ok (.iconst 1, 1) := dk_4 (dk_at dksX3_readsOwl_8 11 rfl rfl)
theorem dX3_readsOwl_196 : decode cX3_readsOwl 196 = .ok (.goto 4, 3) := dk_167 0 4 (dk_at dksX3_readsOwl_8 12 rfl rfl)
theorem dX3_readsOwl_199 : decode cX3_readsOwl 199 = .ok (.iconst 0, 1) := dk_3 (dk_at dksX3_readsOwl_8 15 rfl rfl)
theorem dX3_readsOwl_200 : decode cX3_readsOwl 200 = .ok (.istore_n 3, 1) := dk_62 (dk_at dksX3_readsOwl_8 16 rfl rfl)
theorem dX3_readsOwl_201 : decode cX3_readsOwl 201 = .ok (.goto (-141), 3) := dk_167 255 115 (dk_at dksX3_readsOwl_8 17 rfl rfl)
theorem dX3_readsOwl_204 : decode cX3_readsOwl 204 = .ok (.aload_n 0, 1) := dk_42 (dk_at dksX3_readsOwl_8 20 rfl rfl)
theorem dX3_readsOwl_205 : decode cX3_readsOwl 205 = .ok (.invokevirtual 206, 3) := dk_182 0 206 (dk_at dksX3_readsOwl_8 21 rfl rfl)
theorem dX3_readsOwl_208 : decode cX3_readsOwl 208 = .ok (.ifCond .eq 13, 3) := dk_153 0 13 (dk_at dksX3_readsOwl_9 0 rfl rfl)
theorem dX3_readsOwl_211 : decode cX3_readsOwl 211 = .ok (.aload_n 0, 1) := dk_42 (dk_at dksX3_readsOwl_9 3 rfl rfl)
theorem dX3_readsOwl_212 : decode cX3_readsOwl 212 = .ok (.dup, 1) := dk_89 (dk_at dksX3_readsOwl_9 4 rfl rfl)
theorem dX3_readsOwl_213 : decode cX3_readsOwl 213 = .ok (.getfield 279, 3) := dk_180 1 23 (dk_at dksX3_readsOwl_9 5 rfl rfl)
theorem dX3_readsOwl_216 : decode cX3_readsOwl 216 = .ok (.iconst 1, 1) := dk_4 (dk_at dksX3_readsOwl_9 8 rfl rfl)
theorem dX3_readsOwl_217 : decode cX3_readsOwl 217 = .ok (.iadd, 1) := dk_96 (dk_at dksX3_readsOwl_9 9 rfl rfl)
theorem dX3_readsOwl_218 : decode cX3_readsOwl 218 = .ok (.putfield 279, 3) := dk_181 1 23 (dk_at dksX3_readsOwl_9 10 rfl rfl)
theorem dX3_readsOwl_221 : decode cX3_readsOwl 221 = .ok (.return_, 1) := dk_177 (dk_at dksX3_readsOwl_9 13 rfl rfl)
abbrev cX3_readsRider : ByteArray := prog_14_method_37_code
def yX3_readsRider : MethodName := ⟨RX3, "readsRider", "()V"⟩
def dkwX3_readsRider_4 : List UInt8 := [180, 1, 26, 4, 96, 181, 1, 26, 177]
abbrev dktX3_readsRider_4 : List UInt8 := dkwX3_readsRider_4 ++ []
def dkwX3_readsRider_3 : List UInt8 := [42, 180, 0, 62, 27, 6, 96, 42, 3, 16, 9, 182, 1, 19, 79, 42, 182, 0, 206, 153, 0, 13, 42, 89]
abbrev dktX3_readsRider_3 : List UInt8 := dkwX3_readsRider_3 ++ dktX3_readsRider_4
def dkwX3_readsRider_2 : List UInt8 := [27, 4, 96, 42, 182, 1, 16, 79, 42, 180, 0, 62, 27, 5, 96, 42, 3, 17, 1, 144, 182, 1, 19, 79]
abbrev dktX3_readsRider_2 : List UInt8 := dkwX3_readsRider_2 ++ dktX3_readsRider_3
def dkwX3_readsRider_1 : List UInt8 := [182, 0, 210, 7, 42, 180, 1, 26, 104, 60, 42, 180, 0, 62, 27, 42, 182, 1, 16, 79, 42, 180, 0, 62]
abbrev dktX3_readsRider_1 : List UInt8 := dkwX3_readsRider_1 ++ dktX3_readsRider_2
def dkwX3_readsRider_0 : List UInt8 := [42, 180, 1, 26, 16, 8, 160, 0, 8, 42, 5, 182, 0, 213, 42, 182, 0, 206, 154, 0, 4, 177, 42]
abbrev dktX3_readsRider_0 : List UInt8 := dkwX3_readsRider_0 ++ dktX3_readsRider_1
theorem dksX3_readsRider_0 : cX3_readsRider.data.toList.drop 0 = dktX3_readsRider_0 := by decide +kernel
theorem dksX3_readsRider_1 : cX3_readsRider.data.toList.drop 23 = dktX3_readsRider_1 := dk_seg dksX3_readsRider_0 23 rfl rfl
theorem dksX3_readsRider_2 : cX3_readsRider.data.toList.drop 47 = dktX3_readsRider_2 := dk_seg dksX3_readsRider_1 24 rfl rfl
theorem dksX3_readsRider_3 : cX3_readsRider.data.toList.drop 71 = dktX3_readsRider_3 := dk_seg dksX3_readsRider_2 24 rfl rfl
theorem dksX3_readsRider_4 : cX3_readsRider.data.toList.drop 95 = dktX3_readsRider_4 := dk_seg dksX3_readsRider_3 24 rfl rfl
theorem dX3_readsRider_0 : decode cX3_readsRider 0 = .ok (.aload_n 0, 1) := dk_42 (dk_at dksX3_readsRider_0 0 rfl rfl)
theorem dX3_readsRider_1 : decode cX3_readsRider 1 = .ok (.getfield 282, 3) := dk_180 1 26 (dk_at dksX3_readsRider_0 1 rfl rfl)
theorem dX3_readsRider_4 : decode cX3_readsRider 4 = .ok (.bipush 8, 2) := dk_16 8 (dk_at dksX3_readsRider_0 4 rfl rfl)
theorem dX3_readsRider_6 : decode cX3_readsRider 6 = .ok (.if_icmp .ne 8, 3) := dk_160 0 8 (dk_at dksX3_readsRider_0 6 rfl rfl)
theorem dX3_readsRider_9 : decode cX3_readsRider 9 = .ok (.aload_n 0, 1) := dk_42 (dk_at dksX3_readsRider_0 9 rfl rfl)
theorem dX3_readsRider_10 : decode cX3_readsRider 10 = .ok (.iconst 2, 1) := dk_5 (dk_at dksX3_readsRider_0 10 rfl rfl)
theorem dX3_readsRider_11 : decode cX3_readsRider 11 = .ok (.invokevirtual 213, 3) := dk_182 0 213 (dk_at dksX3_readsRider_0 11 rfl rfl)
theorem dX3_readsRider_14 : decode cX3_readsRider 14 = .ok (.aload_n 0, 1) := dk_42 (dk_at dksX3_readsRider_0 14 rfl rfl)
theorem dX3_readsRider_15 : decode cX3_readsRider 15 = .ok (.invokevirtual 206, 3) := dk_182 0 206 (dk_at dksX3_readsRider_0 15 rfl rfl)
theorem dX3_readsRider_18 : decode cX3_readsRider 18 = .ok (.ifCond .ne 4, 3) := dk_154 0 4 (dk_at dksX3_readsRider_0 18 rfl rfl)
theorem dX3_readsRider_21 : decode cX3_readsRider 21 = .ok (.return_, 1) := dk_177 (dk_at dksX3_readsRider_0 21 rfl rfl)
theorem dX3_readsRider_22 : decode cX3_readsRider 22 = .ok (.aload_n 0, 1) := dk_42 (dk_at dksX3_readsRider_0 22 rfl rfl)
theorem dX3_readsRider_23 : decode cX3_readsRider 23 = .ok (.invokevirtual 210, 3) := dk_182 0 210 (dk_at dksX3_readsRider_1 0 rfl rfl)
theorem dX3_readsRider_26 : decode cX3_readsRider 26 = .ok (.iconst 4, 1) := dk_7 (dk_at dksX3_readsRider_1 3 rfl rfl)
theorem dX3_readsRider_27 : decode cX3_readsRider 27 = .ok (.aload_n 0, 1) := dk_42 (dk_at dksX3_readsRider_1 4 rfl rfl)
theorem dX3_readsRider_28 : decode cX3_readsRider 28 = .ok (.getfield 282, 3) := dk_180 1 26 (dk_at dksX3_readsRider_1 5 rfl rfl)
theorem dX3_readsRider_31 : decode cX3_readsRider 31 = .ok (.imul, 1) := dk_104 (dk_at dksX3_readsRider_1 8 rfl rfl)
theorem dX3_readsRider_32 : decode cX3_readsRider 32 = .ok (.istore_n 1, 1) := dk_60 (dk_at dksX3_readsRider_1 9 rfl rfl)
theorem dX3_readsRider_33 : decode cX3_readsRider 33 = .ok (.aload_n 0, 1) := dk_42 (dk_at dksX3_readsRider_1 10 rfl rfl)
theorem dX3_readsRider_34 : decode cX3_readsRider 34 = .ok (.getfield 62, 3) := dk_180 0 62 (dk_at dksX3_readsRider_1 11 rfl rfl)
theorem dX3_readsRider_37 : decode cX3_readsRider 37 = .ok (.iload_n 1, 1) := dk_27 (dk_at dksX3_readsRider_1 14 rfl rfl)
theorem dX3_readsRider_38 : decode cX3_readsRider 38 = .ok (.aload_n 0, 1) := dk_42 (dk_at dksX3_readsRider_1 15 rfl rfl)
theorem dX3_readsRider_39 : decode cX3_readsRider 39 = .ok (.invokevirtual 272, 3) := dk_182 1 16 (dk_at dksX3_readsRider_1 16 rfl rfl)
theorem dX3_readsRider_42 : decode cX3_readsRider 42 = .ok (.iastore, 1) := dk_79 (dk_at dksX3_readsRider_1 19 rfl rfl)
theorem dX3_readsRider_43 : decode cX3_readsRider 43 = .ok (.aload_n 0, 1) := dk_42 (dk_at dksX3_readsRider_1 20 rfl rfl)
theorem dX3_readsRider_44 : decode cX3_readsRider 44 = .ok (.getfield 62, 3) := dk_180 0 62 (dk_at dksX3_readsRider_1 21 rfl rfl)
theorem dX3_readsRider_47 : decode cX3_readsRider 47 = .ok (.iload_n 1, 1) := dk_27 (dk_at dksX3_readsRider_2 0 rfl rfl)
theorem dX3_readsRider_48 : decode cX3_readsRider 48 = .ok (.iconst 1, 1) := dk_4 (dk_at dksX3_readsRider_2 1 rfl rfl)
theorem dX3_readsRider_49 : decode cX3_readsRider 49 = .ok (.iadd, 1) := dk_96 (dk_at dksX3_readsRider_2 2 rfl rfl)
theorem dX3_readsRider_50 : decode cX3_readsRider 50 = .ok (.aload_n 0, 1) := dk_42 (dk_at dksX3_readsRider_2 3 rfl rfl)
theorem dX3_readsRider_51 : decode cX3_readsRider 51 = .ok (.invokevirtual 272, 3) := dk_182 1 16 (dk_at dksX3_readsRider_2 4 rfl rfl)
theorem dX3_readsRider_54 : decode cX3_readsRider 54 = .ok (.iastore, 1) := dk_79 (dk_at dksX3_readsRider_2 7 rfl rfl)
theorem dX3_readsRider_55 : decode cX3_readsRider 55 = .ok (.aload_n 0, 1) := dk_42 (dk_at dksX3_readsRider_2 8 rfl rfl)
theorem dX3_readsRider_56 : decode cX3_readsRider 56 = .ok (.getfield 62, 3) := dk_180 0 62 (dk_at dksX3_readsRider_2 9 rfl rfl)
theorem dX3_readsRider_59 : decode cX3_readsRider 59 = .ok (.iload_n 1, 1) := dk_27 (dk_at dksX3_readsRider_2 12 rfl rfl)
theorem dX3_readsRider_60 : decode cX3_readsRider 60 = .ok (.iconst 2, 1) := dk_5 (dk_at dksX3_readsRider_2 13 rfl rfl)
theorem dX3_readsRider_61 : decode cX3_readsRider 61 = .ok (.iadd, 1) := dk_96 (dk_at dksX3_readsRider_2 14 rfl rfl)
theorem dX3_readsRider_62 : decode cX3_readsRider 62 = .ok (.aload_n 0, 1) := dk_42 (dk_at dksX3_readsRider_2 15 rfl rfl)
theorem dX3_readsRider_63 : decode cX3_readsRider 63 = .ok (.iconst 0, 1) := dk_3 (dk_at dksX3_readsRider_2 16 rfl rfl)
theorem dX3_readsRider_64 : decode cX3_readsRider 64 = .ok (.sipush 400, 3) := dk_17 1 144 (dk_at dksX3_readsRider_2 17 rfl rfl)
theorem dX3_readsRider_67 : decode cX3_readsRider 67 = .ok (.invokevirtual 275, 3) := dk_182 1 19 (dk_at dksX3_readsRider_2 20 rfl rfl)
theorem dX3_readsRider_70 : decode cX3_readsRider 70 = .ok (.iastore, 1) := dk_79 (dk_at dksX3_readsRider_2 23 rfl rfl)
theorem dX3_readsRider_71 : decode cX3_readsRider 71 = .ok (.aload_n 0, 1) := dk_42 (dk_at dksX3_readsRider_3 0 rfl rfl)
theorem dX3_readsRider_72 : decode cX3_readsRider 72 = .ok (.getfield 62, 3) := dk_180 0 62 (dk_at dksX3_readsRider_3 1 rfl rfl)
theorem dX3_readsRider_75 : decode cX3_readsRider 75 = .ok (.iload_n 1, 1) := dk_27 (dk_at dksX3_readsRider_3 4 rfl rfl)
theorem dX3_readsRider_76 : decode cX3_readsRider 76 = .ok (.iconst 3, 1) := dk_6 (dk_at dksX3_readsRider_3 5 rfl rfl)
theorem dX3_readsRider_77 : decode cX3_readsRider 77 = .ok (.iadd, 1) := dk_96 (dk_at dksX3_readsRider_3 6 rfl rfl)
theorem dX3_readsRider_78 : decode cX3_readsRider 78 = .ok (.aload_n 0, 1) := dk_42 (dk_at dksX3_readsRider_3 7 rfl rfl)
theorem dX3_readsRider_79 : decode cX3_readsRider 79 = .ok (.iconst 0, 1) := dk_3 (dk_at dksX3_readsRider_3 8 rfl rfl)
theorem dX3_readsRider_80 : decode cX3_readsRider 80 = .ok (.bipush 9, 2) := dk_16 9 (dk_at dksX3_readsRider_3 9 rfl rfl)
theorem dX3_readsRider_82 : decode cX3_readsRider 82 = .ok (.invokevirtual 275, 3) := dk_182 1 19 (dk_at dksX3_readsRider_3 11 rfl rfl)
theorem dX3_readsRider_85 : decode cX3_readsRider 85 = .ok (.iastore, 1) := dk_79 (dk_at dksX3_readsRider_3 14 rfl rfl)
theorem dX3_readsRider_86 : decode cX3_readsRider 86 = .ok (.aload_n 0, 1) := dk_42 (dk_at dksX3_readsRider_3 15 rfl rfl)
theorem dX3_readsRider_87 : decode cX3_readsRider 87 = .ok (.invokevirtual 206, 3) := dk_182 0 206 (dk_at dksX3_readsRider_3 16 rfl rfl)
theorem dX3_readsRider_90 : decode cX3_readsRider 90 = .ok (.ifCond .eq 13, 3) := dk_153 0 13 (dk_at dksX3_readsRider_3 19 rfl rfl)
theorem dX3_readsRider_93 : decode cX3_readsRider 93 = .ok (.aload_n 0, 1) := dk_42 (dk_at dksX3_readsRider_3 22 rfl rfl)
theorem dX3_readsRider_94 : decode cX3_readsRider 94 = .ok (.dup, 1) := dk_89 (dk_at dksX3_readsRider_3 23 rfl rfl)
theorem dX3_readsRider_95 : decode cX3_readsRider 95 = .ok (.getfield 282, 3) := dk_180 1 26 (dk_at dksX3_readsRider_4 0 rfl rfl)
theorem dX3_readsRider_98 : decode cX3_readsRider 98 = .ok (.iconst 1, 1) := dk_4 (dk_at dksX3_readsRider_4 3 rfl rfl)
theorem dX3_readsRider_99 : decode cX3_readsRider 99 = .ok (.iadd, 1) := dk_96 (dk_at dksX3_readsRider_4 4 rfl rfl)
theorem dX3_readsRider_100 : decode cX3_readsRider 100 = .ok (.putfield 282, 3) := dk_181 1 26 (dk_at dksX3_readsRider_4 5 rfl rfl)
theorem dX3_readsRider_103 : decode cX3_readsRider 103 = .ok (.return_, 1) := dk_177 (dk_at dksX3_readsRider_4 8 rfl rfl)
abbrev cX3_expression : ByteArray := prog_14_method_34_code
def yX3_expression : MethodName := ⟨RX3, "expression", "()V"⟩
def dkwX3_expression_15 : List UInt8 := [182, 0, 235, 177]
abbrev dktX3_expression_15 : List UInt8 := dkwX3_expression_15 ++ []
def dkwX3_expression_14 : List UInt8 := [153, 0, 16, 42, 180, 0, 241, 4, 164, 0, 8, 42, 4, 182, 0, 213, 42, 3, 182, 1, 0, 42, 3]
abbrev dktX3_expression_14 : List UInt8 := dkwX3_expression_14 ++ dktX3_expression_15
def dkwX3_expression_13 : List UInt8 := [42, 182, 1, 7, 153, 0, 10, 42, 182, 1, 10, 167, 0, 5, 3, 60, 167, 254, 219, 42, 182, 0, 206]
abbrev dktX3_expression_13 : List UInt8 := dkwX3_expression_13 ++ dktX3_expression_14
def dkwX3_expression_12 : List UInt8 := [182, 0, 247, 42, 182, 0, 210, 42, 3, 182, 1, 3, 167, 0, 28, 42, 16, 41, 182, 0, 244, 153, 0, 17]
abbrev dktX3_expression_12 : List UInt8 := dkwX3_expression_12 ++ dktX3_expression_13
def dkwX3_expression_11 : List UInt8 := [42, 16, 6, 182, 1, 0, 42, 42, 16, 42, 182, 0, 244, 153, 0, 8, 16, 10, 167, 0, 5, 16, 11]
abbrev dktX3_expression_11 : List UInt8 := dkwX3_expression_11 ++ dktX3_expression_12
def dkwX3_expression_10 : List UInt8 := [182, 1, 3, 167, 0, 84, 42, 16, 42, 182, 0, 244, 154, 0, 12, 42, 16, 47, 182, 0, 244, 153, 0, 41]
abbrev dktX3_expression_10 : List UInt8 := dkwX3_expression_10 ++ dktX3_expression_11
def dkwX3_expression_9 : List UInt8 := [182, 0, 244, 153, 0, 8, 16, 8, 167, 0, 5, 16, 9, 182, 0, 247, 42, 182, 0, 210, 42, 3]
abbrev dktX3_expression_9 : List UInt8 := dkwX3_expression_9 ++ dktX3_expression_10
def dkwX3_expression_8 : List UInt8 := [182, 0, 244, 154, 0, 12, 42, 16, 45, 182, 0, 244, 153, 0, 40, 42, 8, 182, 1, 0, 42, 42, 16, 43]
abbrev dktX3_expression_8 : List UInt8 := dkwX3_expression_8 ++ dktX3_expression_9
def dkwX3_expression_7 : List UInt8 := [180, 0, 74, 42, 180, 0, 241, 4, 84, 42, 182, 0, 210, 42, 3, 182, 1, 3, 167, 0, 139, 42, 16, 43]
abbrev dktX3_expression_7 : List UInt8 := dkwX3_expression_7 ++ dktX3_expression_8
def dkwX3_expression_6 : List UInt8 := [182, 1, 0, 42, 42, 16, 60, 182, 0, 244, 153, 0, 8, 16, 6, 167, 0, 5, 16, 7, 182, 0, 247, 42]
abbrev dktX3_expression_6 : List UInt8 := dkwX3_expression_6 ++ dktX3_expression_7
def dkwX3_expression_5 : List UInt8 := [16, 61, 182, 0, 244, 153, 0, 62, 42, 180, 0, 74, 42, 180, 0, 241, 51, 154, 0, 50, 42, 7]
abbrev dktX3_expression_5 : List UInt8 := dkwX3_expression_5 ++ dktX3_expression_6
def dkwX3_expression_4 : List UInt8 := [84, 42, 182, 0, 210, 42, 4, 182, 1, 3, 167, 0, 216, 42, 16, 60, 182, 0, 244, 154, 0, 12, 42]
abbrev dktX3_expression_4 : List UInt8 := dkwX3_expression_4 ++ dktX3_expression_5
def dkwX3_expression_3 : List UInt8 := [42, 28, 16, 15, 160, 0, 7, 7, 167, 0, 4, 8, 182, 0, 247, 42, 180, 0, 74, 42, 180, 0, 241, 3]
abbrev dktX3_expression_3 : List UInt8 := dkwX3_expression_3 ++ dktX3_expression_4
def dkwX3_expression_2 : List UInt8 := [159, 0, 9, 28, 16, 16, 160, 0, 55, 42, 28, 16, 15, 160, 0, 7, 5, 167, 0, 4, 4, 182, 1, 0]
abbrev dktX3_expression_2 : List UInt8 := dkwX3_expression_2 ++ dktX3_expression_3
def dkwX3_expression_1 : List UInt8 := [182, 1, 3, 4, 60, 27, 153, 1, 39, 42, 182, 0, 206, 153, 1, 32, 42, 182, 0, 238, 61, 28, 16, 15]
abbrev dktX3_expression_1 : List UInt8 := dkwX3_expression_1 ++ dktX3_expression_2
def dkwX3_expression_0 : List UInt8 := [42, 182, 0, 206, 154, 0, 4, 177, 42, 3, 181, 0, 226, 42, 3, 181, 0, 241, 42, 182, 0, 250, 42, 4]
abbrev dktX3_expression_0 : List UInt8 := dkwX3_expression_0 ++ dktX3_expression_1
theorem dksX3_expression_0 : cX3_expression.data.toList.drop 0 = dktX3_expression_0 := by decide +kernel
theorem dksX3_expression_1 : cX3_expression.data.toList.drop 24 = dktX3_expression_1 := dk_seg dksX3_expression_0 24 rfl rfl
theorem dksX3_expression_2 : cX3_expression.data.toList.drop 48 = dktX3_expression_2 := dk_seg dksX3_expression_1 24 rfl rfl
theorem dksX3_expression_3 : cX3_expression.data.toList.drop 72 = dktX3_expression_3 := dk_seg dksX3_expression_2 24 rfl rfl
theorem dksX3_expression_4 : cX3_expression.data.toList.drop 96 = dktX3_expression_4 := dk_seg dksX3_expression_3 24 rfl rfl
theorem dksX3_expression_5 : cX3_expression.data.toList.drop 119 = dktX3_expression_5 := dk_seg dksX3_expression_4 23 rfl rfl
theorem dksX3_expression_6 : cX3_expression.data.toList.drop 141 = dktX3_expression_6 := dk_seg dksX3_expression_5 22 rfl rfl
theorem dksX3_expression_7 : cX3_expression.data.toList.drop 165 = dktX3_expression_7 := dk_seg dksX3_expression_6 24 rfl rfl
theorem dksX3_expression_8 : cX3_expression.data.toList.drop 189 = dktX3_expression_8 := dk_seg dksX3_expression_7 24 rfl rfl
theorem dksX3_expression_9 : cX3_expression.data.toList.drop 213 = dktX3_expression_9 := dk_seg dksX3_expression_8 24 rfl rfl
theorem dksX3_expression_10 : cX3_expression.data.toList.drop 235 = dktX3_expression_10 := dk_seg dksX3_expression_9 22 rfl rfl
theorem dksX3_expression_11 : cX3_expression.data.toList.drop 259 = dktX3_expression_11 := dk_seg dksX3_expression_10 24 rfl rfl
theorem dksX3_expression_12 : cX3_expression.data.toList.drop 282 = dktX3_expression_12 := dk_seg dksX3_expression_11 23 rfl rfl
theorem dksX3_expression_13 : cX3_expression.data.toList.drop 306 = dktX3_expression_13 := dk_seg dksX3_expression_12 24 rfl rfl
theorem dksX3_expression_14 : cX3_expression.data.toList.drop 329 = dktX3_expression_14 := dk_seg dksX3_expression_13 23 rfl rfl
theorem dksX3_expression_15 : cX3_expression.data.toList.drop 352 = dktX3_expression_15 := dk_seg dksX3_expression_14 23 rfl rfl
theorem dX3_expression_0 : decode cX3_expression 0 = .ok (.aload_n 0, 1) := dk_42 (dk_at dksX3_expression_0 0 rfl rfl)
theorem dX3_expression_1 : decode cX3_expression 1 = .ok (.invokevirtual 206, 3) := dk_182 0 206 (dk_at dksX3_expression_0 1 rfl rfl)
theorem dX3_expression_4 : decode cX3_expression 4 = .ok (.ifCond .ne 4, 3) := dk_154 0 4 (dk_at dksX3_expression_0 4 rfl rfl)
theorem dX3_expression_7 : decode cX3_expression 7 = .ok (.return_, 1) := dk_177 (dk_at dksX3_expression_0 7 rfl rfl)
theorem dX3_expression_8 : decode cX3_expression 8 = .ok (.aload_n 0, 1) := dk_42 (dk_at dksX3_expression_0 8 rfl rfl)
theorem dX3_expression_9 : decode cX3_expression 9 = .ok (.iconst 0, 1) := dk_3 (dk_at dksX3_expression_0 9 rfl rfl)
theorem dX3_expression_10 : decode cX3_expression 10 = .ok (.putfield 226, 3) := dk_181 0 226 (dk_at dksX3_expression_0 10 rfl rfl)
theorem dX3_expression_13 : decode cX3_expression 13 = .ok (.aload_n 0, 1) := dk_42 (dk_at dksX3_expression_0 13 rfl rfl)
theorem dX3_expression_14 : decode cX3_expression 14 = .ok (.iconst 0, 1) := dk_3 (dk_at dksX3_expression_0 14 rfl rfl)
theorem dX3_expression_15 : decode cX3_expression 15 = .ok (.putfield 241, 3) := dk_181 0 241 (dk_at dksX3_expression_0 15 rfl rfl)
theorem dX3_expression_18 : decode cX3_expression 18 = .ok (.aload_n 0, 1) := dk_42 (dk_at dksX3_expression_0 18 rfl rfl)
theorem dX3_expression_19 : decode cX3_expression 19 = .ok (.invokevirtual 250, 3) := dk_182 0 250 (dk_at dksX3_expression_0 19 rfl rfl)
theorem dX3_expression_22 : decode cX3_expression 22 = .ok (.aload_n 0, 1) := dk_42 (dk_at dksX3_expression_0 22 rfl rfl)
theorem dX3_expression_23 : decode cX3_expression 23 = .ok (.iconst 1, 1) := dk_4 (dk_at dksX3_expression_0 23 rfl rfl)
theorem dX3_expression_24 : decode cX3_expression 24 = .ok (.invokevirtual 259, 3) := dk_182 1 3 (dk_at dksX3_expression_1 0 rfl rfl)
theorem dX3_expression_27 : decode cX3_expression 27 = .ok (.iconst 1, 1) := dk_4 (dk_at dksX3_expression_1 3 rfl rfl)
theorem dX3_expression_28 : decode cX3_expression 28 = .ok (.istore_n 1, 1) := dk_60 (dk_at dksX3_expression_1 4 rfl rfl)
theorem dX3_expression_29 : decode cX3_expression 29 = .ok (.iload_n 1, 1) := dk_27 (dk_at dksX3_expression_1 5 rfl rfl)
theorem dX3_expression_30 : decode cX3_expression 30 = .ok (.ifCond .eq 295, 3) := dk_153 1 39 (dk_at dksX3_expression_1 6 rfl rfl)
theorem dX3_expression_33 : decode cX3_expression 33 = .ok (.aload_n 0, 1) := dk_42 (dk_at dksX3_expression_1 9 rfl rfl)
theorem dX3_expression_34 : decode cX3_expression 34 = .ok (.invokevirtual 206, 3) := dk_182 0 206 (dk_at dksX3_expression_1 10 rfl rfl)
theorem dX3_expression_37 : decode cX3_expression 37 = .ok (.ifCond .eq 288, 3) := dk_153 1 32 (dk_at dksX3_expression_1 13 rfl rfl)
theorem dX3_expression_40 : decode cX3_expression 40 = .ok (.aload_n 0, 1) := dk_42 (dk_at dksX3_expression_1 16 rfl rfl)
theorem dX3_expression_41 : decode cX3_expression 41 = .ok (.invokevirtual 238, 3) := dk_182 0 238 (dk_at dksX3_expression_1 17 rfl rfl)
theorem dX3_expression_44 : decode cX3_expression 44 = .ok (.istore_n 2, 1) := dk_61 (dk_at dksX3_expression_1 20 rfl rfl)
theorem dX3_expression_45 : decode cX3_expression 45 = .ok (.iload_n 2, 1) := dk_28 (dk_at dksX3_expression_1 21 rfl rfl)
theorem dX3_expression_46 : decode cX3_expression 46 = .ok (.bipush 15, 2) := dk_16 15 (dk_at dksX3_expression_1 22 rfl rfl)
theorem dX3_expression_48 : decode cX3_expression 48 = .ok (.if_icmp .eq 9, 3) := dk_159 0 9 (dk_at dksX3_expression_2 0 rfl rfl)
theorem dX3_expression_51 : decode cX3_expression 51 = .ok (.iload_n 2, 1) := dk_28 (dk_at dksX3_expression_2 3 rfl rfl)
theorem dX3_expression_52 : decode cX3_expression 52 = .ok (.bipush 16, 2) := dk_16 16 (dk_at dksX3_expression_2 4 rfl rfl)
theorem dX3_expression_54 : decode cX3_expression 54 = .ok (.if_icmp .ne 55, 3) := dk_160 0 55 (dk_at dksX3_expression_2 6 rfl rfl)
theorem dX3_expression_57 : decode cX3_expression 57 = .ok (.aload_n 0, 1) := dk_42 (dk_at dksX3_expression_2 9 rfl rfl)
theorem dX3_expression_58 : decode cX3_expression 58 = .ok (.iload_n 2, 1) := dk_28 (dk_at dksX3_expression_2 10 rfl rfl)
theorem dX3_expression_59 : decode cX3_expression 59 = .ok (.bipush 15, 2) := dk_16 15 (dk_at dksX3_expression_2 11 rfl rfl)
theorem dX3_expression_61 : decode cX3_expression 61 = .ok (.if_icmp .ne 7, 3) := dk_160 0 7 (dk_at dksX3_expression_2 13 rfl rfl)
theorem dX3_expression_64 : decode cX3_expression 64 = .ok (.iconst 2, 1) := dk_5 (dk_at dksX3_expression_2 16 rfl rfl)
theorem dX3_expression_65 : decode cX3_expression 65 = .ok (.goto 4, 3) := dk_167 0 4 (dk_at dksX3_expression_2 17 rfl rfl)
theorem dX3_expression_68 : decode cX3_expression 68 = .ok (.iconst 1, 1) := dk_4 (dk_at dksX3_expression_2 20 rfl rfl)
theorem dX3_expression_69 : decode cX3_expression 69 = .ok (.invokevirtual 256, 3) := dk_182 1 0 (dk_at dksX3_expression_2 21 rfl rfl)
theorem dX3_expression_72 : decode cX3_expression 72 = .ok (.aload_n 0, 1) := dk_42 (dk_at dksX3_expression_3 0 rfl rfl)
theorem dX3_expression_73 : decode cX3_expression 73 = .ok (.iload_n 2, 1) := dk_28 (dk_at dksX3_expression_3 1 rfl rfl)
theorem dX3_expression_74 : decode cX3_expression 74 = .ok (.bipush 15, 2) := dk_16 15 (dk_at dksX3_expression_3 2 rfl rfl)
theorem dX3_expression_76 : decode cX3_expression 76 = .ok (.if_icmp .ne 7, 3) := dk_160 0 7 (dk_at dksX3_expression_3 4 rfl rfl)
theorem dX3_expression_79 : decode cX3_expression 79 = .ok (.iconst 4, 1) := dk_7 (dk_at dksX3_expression_3 7 rfl rfl)
theorem dX3_expression_80 : decode cX3_expression 80 = .ok (.goto 4, 3) := dk_167 0 4 (dk_at dksX3_expression_3 8 rfl rfl)
theorem dX3_expression_83 : decode cX3_expression 83 = .ok (.iconst 5, 1) := dk_8 (dk_at dksX3_expression_3 11 rfl rfl)
theorem dX3_expression_84 : decode cX3_expression 84 = .ok (.invokevirtual 247, 3) := dk_182 0 247 (dk_at dksX3_expression_3 12 rfl rfl)
theorem dX3_expression_87 : decode cX3_expression 87 = .ok (.aload_n 0, 1) := dk_42 (dk_at dksX3_expression_3 15 rfl rfl)
theorem dX3_expression_88 : decode cX3_expression 88 = .ok (.getfield 74, 3) := dk_180 0 74 (dk_at dksX3_expression_3 16 rfl rfl)
theorem dX3_expression_91 : decode cX3_expression 91 = .ok (.aload_n 0, 1) := dk_42 (dk_at dksX3_expression_3 19 rfl rfl)
theorem dX3_expression_92 : decode cX3_expression 92 = .ok (.getfield 241, 3) := dk_180 0 241 (dk_at dksX3_expression_3 20 rfl rfl)
theorem dX3_expression_95 : decode cX3_expression 95 = .ok (.iconst 0, 1) := dk_3 (dk_at dksX3_expression_3 23 rfl rfl)
theorem dX3_expression_96 : decode cX3_expression 96 = .ok (.bastore, 1) := dk_84 (dk_at dksX3_expression_4 0 rfl rfl)
theorem dX3_expression_97 : decode cX3_expression 97 = .ok (.aload_n 0, 1) := dk_42 (dk_at dksX3_expression_4 1 rfl rfl)
theorem dX3_expression_98 : decode cX3_expression 98 = .ok (.invokevirtual 210, 3) := dk_182 0 210 (dk_at dksX3_expression_4 2 rfl rfl)
theorem dX3_expression_101 : decode cX3_expression 101 = .ok (.aload_n 0, 1) := dk_42 (dk_at dksX3_expression_4 5 rfl rfl)
theorem dX3_expression_102 : decode cX3_expression 102 = .ok (.iconst 1, 1) := dk_4 (dk_at dksX3_expression_4 6 rfl rfl)
theorem dX3_expression_103 : decode cX3_expression 103 = .ok (.invokevirtual 259, 3) := dk_182 1 3 (dk_at dksX3_expression_4 7 rfl rfl)
theorem dX3_expression_106 : decode cX3_expression 106 = .ok (.goto 216, 3) := dk_167 0 216 (dk_at dksX3_expression_4 10 rfl rfl)
theorem dX3_expression_109 : decode cX3_expression 109 = .ok (.aload_n 0, 1) := dk_42 (dk_at dksX3_expression_4 13 rfl rfl)
theorem dX3_expression_110 : decode cX3_expression 110 = .ok (.bipush 60, 2) := dk_16 60 (dk_at dksX3_expression_4 14 rfl rfl)
theorem dX3_expression_112 : decode cX3_expression 112 = .ok (.invokevirtual 244, 3) := dk_182 0 244 (dk_at dksX3_expression_4 16 rfl rfl)
theorem dX3_expression_115 : decode cX3_expression 115 = .ok (.ifCond .ne 12, 3) := dk_154 0 12 (dk_at dksX3_expression_4 19 rfl rfl)
theorem dX3_expression_118 : decode cX3_expression 118 = .ok (.aload_n 0, 1) := dk_42 (dk_at dksX3_expression_4 22 rfl rfl)
theorem dX3_expression_119 : decode cX3_expression 119 = .ok (.bipush 61, 2) := dk_16 61 (dk_at dksX3_expression_5 0 rfl rfl)
theorem dX3_expression_121 : decode cX3_expression 121 = .ok (.invokevirtual 244, 3) := dk_182 0 244 (dk_at dksX3_expression_5 2 rfl rfl)
theorem dX3_expression_124 : decode cX3_expression 124 = .ok (.ifCond .eq 62, 3) := dk_153 0 62 (dk_at dksX3_expression_5 5 rfl rfl)
theorem dX3_expression_127 : decode cX3_expression 127 = .ok (.aload_n 0, 1) := dk_42 (dk_at dksX3_expression_5 8 rfl rfl)
theorem dX3_expression_128 : decode cX3_expression 128 = .ok (.getfield 74, 3) := dk_180 0 74 (dk_at dksX3_expression_5 9 rfl rfl)
theorem dX3_expression_131 : decode cX3_expression 131 = .ok (.aload_n 0, 1) := dk_42 (dk_at dksX3_expression_5 12 rfl rfl)
theorem dX3_expression_132 : decode cX3_expression 132 = .ok (.getfield 241, 3) := dk_180 0 241 (dk_at dksX3_expression_5 13 rfl rfl)
theorem dX3_expression_135 : decode cX3_expression 135 = .ok (.baload, 1) := dk_51 (dk_at dksX3_expression_5 16 rfl rfl)
theorem dX3_expression_136 : decode cX3_expression 136 = .ok (.ifCond .ne 50, 3) := dk_154 0 50 (dk_at dksX3_expression_5 17 rfl rfl)
theorem dX3_expression_139 : decode cX3_expression 139 = .ok (.aload_n 0, 1) := dk_42 (dk_at dksX3_expression_5 20 rfl rfl)
theorem dX3_expression_140 : decode cX3_expression 140 = .ok (.iconst 4, 1) := dk_7 (dk_at dksX3_expression_5 21 rfl rfl)
theorem dX3_expression_141 : decode cX3_expression 141 = .ok (.invokevirtual 256, 3) := dk_182 1 0 (dk_at dksX3_expression_6 0 rfl rfl)
theorem dX3_expression_144 : decode cX3_expression 144 = .ok (.aload_n 0, 1) := dk_42 (dk_at dksX3_expression_6 3 rfl rfl)
theorem dX3_expression_145 : decode cX3_expression 145 = .ok (.aload_n 0, 1) := dk_42 (dk_at dksX3_expression_6 4 rfl rfl)
theorem dX3_expression_146 : decode cX3_expression 146 = .ok (.bipush 60, 2) := dk_16 60 (dk_at dksX3_expression_6 5 rfl rfl)
theorem dX3_expression_148 : decode cX3_expression 148 = .ok (.invokevirtual 244, 3) := dk_182 0 244 (dk_at dksX3_expression_6 7 rfl rfl)
theorem dX3_expression_151 : decode cX3_expression 151 = .ok (.ifCond .eq 8, 3) := dk_153 0 8 (dk_at dksX3_expression_6 10 rfl rfl)
theorem dX3_expression_154 : decode cX3_expression 154 = .ok (.bipush 6, 2) := dk_16 6 (dk_at dksX3_expression_6 13 rfl rfl)
theorem dX3_expression_156 : decode cX3_expression 156 = .ok (.goto 5, 3) := dk_167 0 5 (dk_at dksX3_expression_6 15 rfl rfl)
theorem dX3_expression_159 : decode cX3_expression 159 = .ok (.bipush 7, 2) := dk_16 7 (dk_at dksX3_expression_6 18 rfl rfl)
theorem dX3_expression_161 : decode cX3_expression 161 = .ok (.invokevirtual 247, 3) := dk_182 0 247 (dk_at dksX3_expression_6 20 rfl rfl)
theorem dX3_expression_164 : decode cX3_expression 164 = .ok (.aload_n 0, 1) := dk_42 (dk_at dksX3_expression_6 23 rfl rfl)
theorem dX3_expression_165 : decode cX3_expression 165 = .ok (.getfield 74, 3) := dk_180 0 74 (dk_at dksX3_expression_7 0 rfl rfl)
theorem dX3_expression_168 : decode cX3_expression 168 = .ok (.aload_n 0, 1) := dk_42 (dk_at dksX3_expression_7 3 rfl rfl)
theorem dX3_expression_169 : decode cX3_expression 169 = .ok (.getfield 241, 3) := dk_180 0 241 (dk_at dksX3_expression_7 4 rfl rfl)
theorem dX3_expression_172 : decode cX3_expression 172 = .ok (.iconst 1, 1) := dk_4 (dk_at dksX3_expression_7 7 rfl rfl)
theorem dX3_expression_173 : decode cX3_expression 173 = .ok (.bastore, 1) := dk_84 (dk_at dksX3_expression_7 8 rfl rfl)
theorem dX3_expression_174 : decode cX3_expression 174 = .ok (.aload_n 0, 1) := dk_42 (dk_at dksX3_expression_7 9 rfl rfl)
theorem dX3_expression_175 : decode cX3_expression 175 = .ok (.invokevirtual 210, 3) := dk_182 0 210 (dk_at dksX3_expression_7 10 rfl rfl)
theorem dX3_expression_178 : decode cX3_expression 178 = .ok (.aload_n 0, 1) := dk_42 (dk_at dksX3_expression_7 13 rfl rfl)
theorem dX3_expression_179 : decode cX3_expression 179 = .ok (.iconst 0, 1) := dk_3 (dk_at dksX3_expression_7 14 rfl rfl)
theorem dX3_expression_180 : decode cX3_expression 180 = .ok (.invokevirtual 259, 3) := dk_182 1 3 (dk_at dksX3_expression_7 15 rfl rfl)
theorem dX3_expression_183 : decode cX3_expression 183 = .ok (.goto 139, 3) := dk_167 0 139 (dk_at dksX3_expression_7 18 rfl rfl)
theorem dX3_expression_186 : decode cX3_expression 186 = .ok (.aload_n 0, 1) := dk_42 (dk_at dksX3_expression_7 21 rfl rfl)
theorem dX3_expression_187 : decode cX3_expression 187 = .ok (.bipush 43, 2) := dk_16 43 (dk_at dksX3_expression_7 22 rfl rfl)
theorem dX3_expression_189 : decode cX3_expression 189 = .ok (.invokevirtual 244, 3) := dk_182 0 244 (dk_at dksX3_expression_8 0 rfl rfl)
theorem dX3_expression_192 : decode cX3_expression 192 = .ok (.ifCond .ne 12, 3) := dk_154 0 12 (dk_at dksX3_expression_8 3 rfl rfl)
theorem dX3_expression_195 : decode cX3_expression 195 = .ok (.aload_n 0, 1) := dk_42 (dk_at dksX3_expression_8 6 rfl rfl)
theorem dX3_expression_196 : decode cX3_expression 196 = .ok (.bipush 45, 2) := dk_16 45 (dk_at dksX3_expression_8 7 rfl rfl)
theorem dX3_expression_198 : decode cX3_expression 198 = .ok (.invokevirtual 244, 3) := dk_182 0 244 (dk_at dksX3_expression_8 9 rfl rfl)
theorem dX3_expression_201 : decode cX3_expression 201 = .ok (.ifCond .eq 40, 3) := dk_153 0 40 (dk_at dksX3_expression_8 12 rfl rfl)
theorem dX3_expression_204 : decode cX3_expression 204 = .ok (.aload_n 0, 1) := dk_42 (dk_at dksX3_expression_8 15 rfl rfl)
theorem dX3_expression_205 : decode cX3_expression 205 = .ok (.iconst 5, 1) := dk_8 (dk_at dksX3_expression_8 16 rfl rfl)
theorem dX3_expression_206 : decode cX3_expression 206 = .ok (.invokevirtual 256, 3) := dk_182 1 0 (dk_at dksX3_expression_8 17 rfl rfl)
theorem dX3_expression_209 : decode cX3_expression 209 = .ok (.aload_n 0, 1) := dk_42 (dk_at dksX3_expression_8 20 rfl rfl)
theorem dX3_expression_210 : decode cX3_expression 210 = .ok (.aload_n 0, 1) := dk_42 (dk_at dksX3_expression_8 21 rfl rfl)
theorem dX3_expression_211 : decode cX3_expression 211 = .ok (.bipush 43, 2) := dk_16 43 (dk_at dksX3_expression_8 22 rfl rfl)
theorem dX3_expression_213 : decode cX3_expression 213 = .ok (.invokevirtual 244, 3) := dk_182 0 244 (dk_at dksX3_expression_9 0 rfl rfl)
theorem dX3_expression_216 : decode cX3_expression 216 = .ok (.ifCond .eq 8, 3) := dk_153 0 8 (dk_at dksX3_expression_9 3 rfl rfl)
theorem dX3_expression_219 : decode cX3_expression 219 = .ok (.bipush 8, 2) := dk_16 8 (dk_at dksX3_expression_9 6 rfl rfl)
theorem dX3_expression_221 : decode cX3_expression 221 = .ok (.goto 5, 3) := dk_167 0 5 (dk_at dksX3_expression_9 8 rfl rfl)
theorem dX3_expression_224 : decode cX3_expression 224 = .ok (.bipush 9, 2) := dk_16 9 (dk_at dksX3_expression_9 11 rfl rfl)
theorem dX3_expression_226 : decode cX3_expression 226 = .ok (.invokevirtual 247, 3) := dk_182 0 247 (dk_at dksX3_expression_9 13 rfl rfl)
theorem dX3_expression_229 : decode cX3_expression 229 = .ok (.aload_n 0, 1) := dk_42 (dk_at dksX3_expression_9 16 rfl rfl)
theorem dX3_expression_230 : decode cX3_expression 230 = .ok (.invokevirtual 210, 3) := dk_182 0 210 (dk_at dksX3_expression_9 17 rfl rfl)
theorem dX3_expression_233 : decode cX3_expression 233 = .ok (.aload_n 0, 1) := dk_42 (dk_at dksX3_expression_9 20 rfl rfl)
theorem dX3_expression_234 : decode cX3_expression 234 = .ok (.iconst 0, 1) := dk_3 (dk_at dksX3_expression_9 21 rfl rfl)
theorem dX3_expression_235 : decode cX3_expression 235 = .ok (.invokevirtual 259, 3) := dk_182 1 3 (dk_at dksX3_expression_10 0 rfl rfl)
theorem dX3_expression_238 : decode cX3_expression 238 = .ok (.goto 84, 3) := dk_167 0 84 (dk_at dksX3_expression_10 3 rfl rfl)
theorem dX3_expression_241 : decode cX3_expression 241 = .ok (.aload_n 0, 1) := dk_42 (dk_at dksX3_expression_10 6 rfl rfl)
theorem dX3_expression_242 : decode cX3_expression 242 = .ok (.bipush 42, 2) := dk_16 42 (dk_at dksX3_expression_10 7 rfl rfl)
theorem dX3_expression_244 : decode cX3_expression 244 = .ok (.invokevirtual 244, 3) := dk_182 0 244 (dk_at dksX3_expression_10 9 rfl rfl)
theorem dX3_expression_247 : decode cX3_expression 247 = .ok (.ifCond .ne 12, 3) := dk_154 0 12 (dk_at dksX3_expression_10 12 rfl rfl)
theorem dX3_expression_250 : decode cX3_expression 250 = .ok (.aload_n 0, 1) := dk_42 (dk_at dksX3_expression_10 15 rfl rfl)
theorem dX3_expression_251 : decode cX3_expression 251 = .ok (.bipush 47, 2) := dk_16 47 (dk_at dksX3_expression_10 16 rfl rfl)
theorem dX3_expression_253 : decode cX3_expression 253 = .ok (.invokevirtual 244, 3) := dk_182 0 244 (dk_at dksX3_expression_10 18 rfl rfl)
theorem dX3_expression_256 : decode cX3_expression 256 = .ok (.ifCond .eq 41, 3) := dk_153 0 41 (dk_at dksX3_expression_10 21 rfl rfl)
theorem dX3_expression_259 : decode cX3_expression 259 = .ok (.aload_n 0, 1) := dk_42 (dk_at dksX3_expression_11 0 rfl rfl)
theorem dX3_expression_260 : decode cX3_expression 260 = .ok (.bipush 6, 2) := dk_16 6 (dk_at dksX3_expression_11 1 rfl rfl)
theorem dX3_expression_262 : decode cX3_expression 262 = .ok (.invokevirtual 256, 3) := dk_182 1 0 (dk_at dksX3_expression_11 3 rfl rfl)
theorem dX3_expression_265 : decode cX3_expression 265 = .ok (.aload_n 0, 1) := dk_42 (dk_at dksX3_expression_11 6 rfl rfl)
theorem dX3_expression_266 : decode cX3_expression 266 = .ok (.aload_n 0, 1) := dk_42 (dk_at dksX3_expression_11 7 rfl rfl)
theorem dX3_expression_267 : decode cX3_expression 267 = .ok (.bipush 42, 2) := dk_16 42 (dk_at dksX3_expression_11 8 rfl rfl)
theorem dX3_expression_269 : decode cX3_expression 269 = .ok (.invokevirtual 244, 3) := dk_182 0 244 (dk_at dksX3_expression_11 10 rfl rfl)
theorem dX3_expression_272 : decode cX3_expression 272 = .ok (.ifCond .eq 8, 3) := dk_153 0 8 (dk_at dksX3_expression_11 13 rfl rfl)
theorem dX3_expression_275 : decode cX3_expression 275 = .ok (.bipush 10, 2) := dk_16 10 (dk_at dksX3_expression_11 16 rfl rfl)
theorem dX3_expression_277 : decode cX3_expression 277 = .ok (.goto 5, 3) := dk_167 0 5 (dk_at dksX3_expression_11 18 rfl rfl)
theorem dX3_expression_280 : decode cX3_expression 280 = .ok (.bipush 11, 2) := dk_16 11 (dk_at dksX3_expression_11 21 rfl rfl)
theorem dX3_expression_282 : decode cX3_expression 282 = .ok (.invokevirtual 247, 3) := dk_182 0 247 (dk_at dksX3_expression_12 0 rfl rfl)
theorem dX3_expression_285 : decode cX3_expression 285 = .ok (.aload_n 0, 1) := dk_42 (dk_at dksX3_expression_12 3 rfl rfl)
theorem dX3_expression_286 : decode cX3_expression 286 = .ok (.invokevirtual 210, 3) := dk_182 0 210 (dk_at dksX3_expression_12 4 rfl rfl)
theorem dX3_expression_289 : decode cX3_expression 289 = .ok (.aload_n 0, 1) := dk_42 (dk_at dksX3_expression_12 7 rfl rfl)
theorem dX3_expression_290 : decode cX3_expression 290 = .ok (.iconst 0, 1) := dk_3 (dk_at dksX3_expression_12 8 rfl rfl)
theorem dX3_expression_291 : decode cX3_expression 291 = .ok (.invokevirtual 259, 3) := dk_182 1 3 (dk_at dksX3_expression_12 9 rfl rfl)
theorem dX3_expression_294 : decode cX3_expression 294 = .ok (.goto 28, 3) := dk_167 0 28 (dk_at dksX3_expression_12 12 rfl rfl)
theorem dX3_expression_297 : decode cX3_expression 297 = .ok (.aload_n 0, 1) := dk_42 (dk_at dksX3_expression_12 15 rfl rfl)
theorem dX3_expression_298 : decode cX3_expression 298 = .ok (.bipush 41, 2) := dk_16 41 (dk_at dksX3_expression_12 16 rfl rfl)
theorem dX3_expression_300 : decode cX3_expression 300 = .ok (.invokevirtual 244, 3) := dk_182 0 244 (dk_at dksX3_expression_12 18 rfl rfl)
theorem dX3_expression_303 : decode cX3_expression 303 = .ok (.ifCond .eq 17, 3) := dk_153 0 17 (dk_at dksX3_expression_12 21 rfl rfl)
theorem dX3_expression_306 : decode cX3_expression 306 = .ok (.aload_n 0, 1) := dk_42 (dk_at dksX3_expression_13 0 rfl rfl)
theorem dX3_expression_307 : decode cX3_expression 307 = .ok (.invokevirtual 263, 3) := dk_182 1 7 (dk_at dksX3_expression_13 1 rfl rfl)
theorem dX3_expression_310 : decode cX3_expression 310 = .ok (.ifCond .eq 10, 3) := dk_153 0 10 (dk_at dksX3_expression_13 4 rfl rfl)
theorem dX3_expression_313 : decode cX3_expression 313 = .ok (.aload_n 0, 1) := dk_42 (dk_at dksX3_expression_13 7 rfl rfl)
theorem dX3_expression_314 : decode cX3_expression 314 = .ok (.invokevirtual 266, 3) := dk_182 1 10 (dk_at dksX3_expression_13 8 rfl rfl)
theorem dX3_expression_317 : decode cX3_expression 317 = .ok (.goto 5, 3) := dk_167 0 5 (dk_at dksX3_expression_13 11 rfl rfl)
theorem dX3_expression_320 : decode cX3_expression 320 = .ok (.iconst 0, 1) := dk_3 (dk_at dksX3_expression_13 14 rfl rfl)
theorem dX3_expression_321 : decode cX3_expression 321 = .ok (.istore_n 1, 1) := dk_60 (dk_at dksX3_expression_13 15 rfl rfl)
theorem dX3_expression_322 : decode cX3_expression 322 = .ok (.goto (-293), 3) := dk_167 254 219 (dk_at dksX3_expression_13 16 rfl rfl)
theorem dX3_expression_325 : decode cX3_expression 325 = .ok (.aload_n 0, 1) := dk_42 (dk_at dksX3_expression_13 19 rfl rfl)
theorem dX3_expression_326 : decode cX3_expression 326 = .ok (.invokevirtual 206, 3) := dk_182 0 206 (dk_at dksX3_expression_13 20 rfl rfl)
theorem dX3_expression_329 : decode cX3_expression 329 = .ok (.ifCond .eq 16, 3) := dk_153 0 16 (dk_at dksX3_expression_14 0 rfl rfl)
theorem dX3_expression_332 : decode cX3_expression 332 = .ok (.aload_n 0, 1) := dk_42 (dk_at dksX3_expression_14 3 rfl rfl)
theorem dX3_expression_333 : decode cX3_expression 333 = .ok (.getfield 241, 3) := dk_180 0 241 (dk_at dksX3_expression_14 4 rfl rfl)
theorem dX3_expression_336 : decode cX3_expression 336 = .ok (.iconst 1, 1) := dk_4 (dk_at dksX3_expression_14 7 rfl rfl)
theorem dX3_expression_337 : decode cX3_expression 337 = .ok (.if_icmp .le 8, 3) := dk_164 0 8 (dk_at dksX3_expression_14 8 rfl rfl)
theorem dX3_expression_340 : decode cX3_expression 340 = .ok (.aload_n 0, 1) := dk_42 (dk_at dksX3_expression_14 11 rfl rfl)
theorem dX3_expression_341 : decode cX3_expression 341 = .ok (.iconst 1, 1) := dk_4 (dk_at dksX3_expression_14 12 rfl rfl)
theorem dX3_expression_342 : decode cX3_expression 342 = .ok (.invokevirtual 213, 3) := dk_182 0 213 (dk_at dksX3_expression_14 13 rfl rfl)
theorem dX3_expression_345 : decode cX3_expression 345 = .ok (.aload_n 0, 1) := dk_42 (dk_at dksX3_expression_14 16 rfl rfl)
theorem dX3_expression_346 : decode cX3_expression 346 = .ok (.iconst 0, 1) := dk_3 (dk_at dksX3_expression_14 17 rfl rfl)
theorem dX3_expression_347 : decode cX3_expression 347 = .ok (.invokevirtual 256, 3) := dk_182 1 0 (dk_at dksX3_expression_14 18 rfl rfl)
theorem dX3_expression_350 : decode cX3_expression 350 = .ok (.aload_n 0, 1) := dk_42 (dk_at dksX3_expression_14 21 rfl rfl)
theorem dX3_expression_351 : decode cX3_expression 351 = .ok (.iconst 0, 1) := dk_3 (dk_at dksX3_expression_14 22 rfl rfl)
theorem dX3_expression_352 : decode cX3_expression 352 = .ok (.invokevirtual 235, 3) := dk_182 0 235 (dk_at dksX3_expression_15 0 rfl rfl)
theorem dX3_expression_355 : decode cX3_expression 355 = .ok (.return_, 1) := dk_177 (dk_at dksX3_expression_15 3 rfl rfl)
abbrev cX3_deeper : ByteArray := prog_14_method_30_code
def yX3_deeper : MethodName := ⟨RX3, "deeper", "()V"⟩
def dkwX3_deeper_2 : List UInt8 := [16, 40, 182, 0, 244, 153, 0, 7, 5, 167, 0, 4, 4, 182, 0, 213, 177]
abbrev dktX3_deeper_2 : List UInt8 := dkwX3_deeper_2 ++ []
def dkwX3_deeper_1 : List UInt8 := [180, 0, 241, 3, 84, 177, 42, 42, 180, 0, 180, 5, 159, 0, 20, 42, 180, 0, 180, 4, 159, 0, 12, 42]
abbrev dktX3_deeper_1 : List UInt8 := dkwX3_deeper_1 ++ dktX3_deeper_2
def dkwX3_deeper_0 : List UInt8 := [42, 180, 0, 241, 16, 6, 162, 0, 24, 42, 89, 180, 0, 241, 4, 96, 181, 0, 241, 42, 180, 0, 74, 42]
abbrev dktX3_deeper_0 : List UInt8 := dkwX3_deeper_0 ++ dktX3_deeper_1
theorem dksX3_deeper_0 : cX3_deeper.data.toList.drop 0 = dktX3_deeper_0 := by decide +kernel
theorem dksX3_deeper_1 : cX3_deeper.data.toList.drop 24 = dktX3_deeper_1 := dk_seg dksX3_deeper_0 24 rfl rfl
theorem dksX3_deeper_2 : cX3_deeper.data.toList.drop 48 = dktX3_deeper_2 := dk_seg dksX3_deeper_1 24 rfl rfl
theorem dX3_deeper_0 : decode cX3_deeper 0 = .ok (.aload_n 0, 1) := dk_42 (dk_at dksX3_deeper_0 0 rfl rfl)
theorem dX3_deeper_1 : decode cX3_deeper 1 = .ok (.getfield 241, 3) := dk_180 0 241 (dk_at dksX3_deeper_0 1 rfl rfl)
theorem dX3_deeper_4 : decode cX3_deeper 4 = .ok (.bipush 6, 2) := dk_16 6 (dk_at dksX3_deeper_0 4 rfl rfl)
theorem dX3_deeper_6 : decode cX3_deeper 6 = .ok (.if_icmp .ge 24, 3) := dk_162 0 24 (dk_at dksX3_deeper_0 6 rfl rfl)
theorem dX3_deeper_9 : decode cX3_deeper 9 = .ok (.aload_n 0, 1) := dk_42 (dk_at dksX3_deeper_0 9 rfl rfl)
theorem dX3_deeper_10 : decode cX3_deeper 10 = .ok (.dup, 1) := dk_89 (dk_at dksX3_deeper_0 10 rfl rfl)
theorem dX3_deeper_11 : decode cX3_deeper 11 = .ok (.getfield 241, 3) := dk_180 0 241 (dk_at dksX3_deeper_0 11 rfl rfl)
theorem dX3_deeper_14 : decode cX3_deeper 14 = .ok (.iconst 1, 1) := dk_4 (dk_at dksX3_deeper_0 14 rfl rfl)
theorem dX3_deeper_15 : decode cX3_deeper 15 = .ok (.iadd, 1) := dk_96 (dk_at dksX3_deeper_0 15 rfl rfl)
theorem dX3_deeper_16 : decode cX3_deeper 16 = .ok (.putfield 241, 3) := dk_181 0 241 (dk_at dksX3_deeper_0 16 rfl rfl)
theorem dX3_deeper_19 : decode cX3_deeper 19 = .ok (.aload_n 0, 1) := dk_42 (dk_at dksX3_deeper_0 19 rfl rfl)
theorem dX3_deeper_20 : decode cX3_deeper 20 = .ok (.getfield 74, 3) := dk_180 0 74 (dk_at dksX3_deeper_0 20 rfl rfl)
theorem dX3_deeper_23 : decode cX3_deeper 23 = .ok (.aload_n 0, 1) := dk_42 (dk_at dksX3_deeper_0 23 rfl rfl)
theorem dX3_deeper_24 : decode cX3_deeper 24 = .ok (.getfield 241, 3) := dk_180 0 241 (dk_at dksX3_deeper_1 0 rfl rfl)
theorem dX3_deeper_27 : decode cX3_deeper 27 = .ok (.iconst 0, 1) := dk_3 (dk_at dksX3_deeper_1 3 rfl rfl)
theorem dX3_deeper_28 : decode cX3_deeper 28 = .ok (.bastore, 1) := dk_84 (dk_at dksX3_deeper_1 4 rfl rfl)
theorem dX3_deeper_29 : decode cX3_deeper 29 = .ok (.return_, 1) := dk_177 (dk_at dksX3_deeper_1 5 rfl rfl)
theorem dX3_deeper_30 : decode cX3_deeper 30 = .ok (.aload_n 0, 1) := dk_42 (dk_at dksX3_deeper_1 6 rfl rfl)
theorem dX3_deeper_31 : decode cX3_deeper 31 = .ok (.aload_n 0, 1) := dk_42 (dk_at dksX3_deeper_1 7 rfl rfl)
theorem dX3_deeper_32 : decode cX3_deeper 32 = .ok (.getfield 180, 3) := dk_180 0 180 (dk_at dksX3_deeper_1 8 rfl rfl)
theorem dX3_deeper_35 : decode cX3_deeper 35 = .ok (.iconst 2, 1) := dk_5 (dk_at dksX3_deeper_1 11 rfl rfl)
theorem dX3_deeper_36 : decode cX3_deeper 36 = .ok (.if_icmp .eq 20, 3) := dk_159 0 20 (dk_at dksX3_deeper_1 12 rfl rfl)
theorem dX3_deeper_39 : decode cX3_deeper 39 = .ok (.aload_n 0, 1) := dk_42 (dk_at dksX3_deeper_1 15 rfl rfl)
theorem dX3_deeper_40 : decode cX3_deeper 40 = .ok (.getfield 180, 3) := dk_180 0 180 (dk_at dksX3_deeper_1 16 rfl rfl)
theorem dX3_deeper_43 : decode cX3_deeper 43 = .ok (.iconst 1, 1) := dk_4 (dk_at dksX3_deeper_1 19 rfl rfl)
theorem dX3_deeper_44 : decode cX3_deeper 44 = .ok (.if_icmp .eq 12, 3) := dk_159 0 12 (dk_at dksX3_deeper_1 20 rfl rfl)
theorem dX3_deeper_47 : decode cX3_deeper 47 = .ok (.aload_n 0, 1) := dk_42 (dk_at dksX3_deeper_1 23 rfl rfl)
theorem dX3_deeper_48 : decode cX3_deeper 48 = .ok (.bipush 40, 2) := dk_16 40 (dk_at dksX3_deeper_2 0 rfl rfl)
theorem dX3_deeper_50 : decode cX3_deeper 50 = .ok (.invokevirtual 244, 3) := dk_182 0 244 (dk_at dksX3_deeper_2 2 rfl rfl)
theorem dX3_deeper_53 : decode cX3_deeper 53 = .ok (.ifCond .eq 7, 3) := dk_153 0 7 (dk_at dksX3_deeper_2 5 rfl rfl)
theorem dX3_deeper_56 : decode cX3_deeper 56 = .ok (.iconst 2, 1) := dk_5 (dk_at dksX3_deeper_2 8 rfl rfl)
theorem dX3_deeper_57 : decode cX3_deeper 57 = .ok (.goto 4, 3) := dk_167 0 4 (dk_at dksX3_deeper_2 9 rfl rfl)
theorem dX3_deeper_60 : decode cX3_deeper 60 = .ok (.iconst 1, 1) := dk_4 (dk_at dksX3_deeper_2 12 rfl rfl)
theorem dX3_deeper_61 : decode cX3_deeper 61 = .ok (.invokevirtual 213, 3) := dk_182 0 213 (dk_at dksX3_deeper_2 13 rfl rfl)
theorem dX3_deeper_64 : decode cX3_deeper 64 = .ok (.return_, 1) := dk_177 (dk_at dksX3_deeper_2 16 rfl rfl)
abbrev cX3_isSign : ByteArray := prog_14_method_19_code
def yX3_isSign : MethodName := ⟨RX3, "isSign", "(I)Z"⟩
def dkwX3_isSign_0 : List UInt8 := [42, 180, 0, 180, 6, 160, 0, 15, 42, 180, 0, 177, 27, 160, 0, 7, 4, 167, 0, 4, 3, 172]
abbrev dktX3_isSign_0 : List UInt8 := dkwX3_isSign_0 ++ []
theorem dksX3_isSign_0 : cX3_isSign.data.toList.drop 0 = dktX3_isSign_0 := by decide +kernel
theorem dX3_isSign_0 : decode cX3_isSign 0 = .ok (.aload_n 0, 1) := dk_42 (dk_at dksX3_isSign_0 0 rfl rfl)
theorem dX3_isSign_1 : decode cX3_isSign 1 = .ok (.getfield 180, 3) := dk_180 0 180 (dk_at dksX3_isSign_0 1 rfl rfl)
theorem dX3_isSign_4 : decode cX3_isSign 4 = .ok (.iconst 3, 1) := dk_6 (dk_at dksX3_isSign_0 4 rfl rfl)
theorem dX3_isSign_5 : decode cX3_isSign 5 = .ok (.if_icmp .ne 15, 3) := dk_160 0 15 (dk_at dksX3_isSign_0 5 rfl rfl)
theorem dX3_isSign_8 : decode cX3_isSign 8 = .ok (.aload_n 0, 1) := dk_42 (dk_at dksX3_isSign_0 8 rfl rfl)
theorem dX3_isSign_9 : decode cX3_isSign 9 = .ok (.getfield 177, 3) := dk_180 0 177 (dk_at dksX3_isSign_0 9 rfl rfl)
theorem dX3_isSign_12 : decode cX3_isSign 12 = .ok (.iload_n 1, 1) := dk_27 (dk_at dksX3_isSign_0 12 rfl rfl)
theorem dX3_isSign_13 : decode cX3_isSign 13 = .ok (.if_icmp .ne 7, 3) := dk_160 0 7 (dk_at dksX3_isSign_0 13 rfl rfl)
theorem dX3_isSign_16 : decode cX3_isSign 16 = .ok (.iconst 1, 1) := dk_4 (dk_at dksX3_isSign_0 16 rfl rfl)
theorem dX3_isSign_17 : decode cX3_isSign 17 = .ok (.goto 4, 3) := dk_167 0 4 (dk_at dksX3_isSign_0 17 rfl rfl)
theorem dX3_isSign_20 : decode cX3_isSign 20 = .ok (.iconst 0, 1) := dk_3 (dk_at dksX3_isSign_0 20 rfl rfl)
theorem dX3_isSign_21 : decode cX3_isSign 21 = .ok (.ireturn, 1) := dk_172 (dk_at dksX3_isSign_0 21 rfl rfl)
abbrev cX3_operand : ByteArray := prog_14_method_31_code
def yX3_operand : MethodName := ⟨RX3, "operand", "(Z)V"⟩
def dkwX3_operand_5 : List UInt8 := [61, 167, 255, 143, 42, 182, 0, 253, 177]
abbrev dktX3_operand_5 : List UInt8 := dkwX3_operand_5 ++ []
def dkwX3_operand_4 : List UInt8 := [167, 0, 4, 3, 62, 29, 153, 0, 19, 42, 16, 14, 182, 0, 247, 42, 182, 0, 210, 42, 182, 0, 250, 4]
abbrev dktX3_operand_4 : List UInt8 := dkwX3_operand_4 ++ dktX3_operand_5
def dkwX3_operand_3 : List UInt8 := [182, 0, 210, 167, 255, 202, 42, 182, 0, 206, 153, 0, 16, 42, 16, 40, 182, 0, 244, 153, 0, 7, 4]
abbrev dktX3_operand_3 : List UInt8 := dkwX3_operand_3 ++ dktX3_operand_4
def dkwX3_operand_2 : List UInt8 := [5, 182, 0, 213, 132, 4, 1, 42, 182, 0, 206, 154, 0, 6, 167, 255, 214, 42, 6, 182, 0, 247, 42]
abbrev dktX3_operand_2 : List UInt8 := dkwX3_operand_2 ++ dktX3_operand_3
def dkwX3_operand_1 : List UInt8 := [153, 0, 53, 28, 153, 0, 49, 42, 182, 0, 238, 16, 17, 160, 0, 40, 21, 4, 16, 6, 160, 0, 8, 42]
abbrev dktX3_operand_1 : List UInt8 := dkwX3_operand_1 ++ dktX3_operand_2
def dkwX3_operand_0 : List UInt8 := [27, 61, 4, 62, 29, 153, 0, 115, 42, 182, 0, 206, 153, 0, 108, 3, 54, 4, 42, 182, 0, 206]
abbrev dktX3_operand_0 : List UInt8 := dkwX3_operand_0 ++ dktX3_operand_1
theorem dksX3_operand_0 : cX3_operand.data.toList.drop 0 = dktX3_operand_0 := by decide +kernel
theorem dksX3_operand_1 : cX3_operand.data.toList.drop 22 = dktX3_operand_1 := dk_seg dksX3_operand_0 22 rfl rfl
theorem dksX3_operand_2 : cX3_operand.data.toList.drop 46 = dktX3_operand_2 := dk_seg dksX3_operand_1 24 rfl rfl
theorem dksX3_operand_3 : cX3_operand.data.toList.drop 69 = dktX3_operand_3 := dk_seg dksX3_operand_2 23 rfl rfl
theorem dksX3_operand_4 : cX3_operand.data.toList.drop 92 = dktX3_operand_4 := dk_seg dksX3_operand_3 23 rfl rfl
theorem dksX3_operand_5 : cX3_operand.data.toList.drop 116 = dktX3_operand_5 := dk_seg dksX3_operand_4 24 rfl rfl
theorem dX3_operand_0 : decode cX3_operand 0 = .ok (.iload_n 1, 1) := dk_27 (dk_at dksX3_operand_0 0 rfl rfl)
theorem dX3_operand_1 : decode cX3_operand 1 = .ok (.istore_n 2, 1) := dk_61 (dk_at dksX3_operand_0 1 rfl rfl)
theorem dX3_operand_2 : decode cX3_operand 2 = .ok (.iconst 1, 1) := dk_4 (dk_at dksX3_operand_0 2 rfl rfl)
theorem dX3_operand_3 : decode cX3_operand 3 = .ok (.istore_n 3, 1) := dk_62 (dk_at dksX3_operand_0 3 rfl rfl)
theorem dX3_operand_4 : decode cX3_operand 4 = .ok (.iload_n 3, 1) := dk_29 (dk_at dksX3_operand_0 4 rfl rfl)
theorem dX3_operand_5 : decode cX3_operand 5 = .ok (.ifCond .eq 115, 3) := dk_153 0 115 (dk_at dksX3_operand_0 5 rfl rfl)
theorem dX3_operand_8 : decode cX3_operand 8 = .ok (.aload_n 0, 1) := dk_42 (dk_at dksX3_operand_0 8 rfl rfl)
theorem dX3_operand_9 : decode cX3_operand 9 = .ok (.invokevirtual 206, 3) := dk_182 0 206 (dk_at dksX3_operand_0 9 rfl rfl)
theorem dX3_operand_12 : decode cX3_operand 12 = .ok (.ifCond .eq 108, 3) := dk_153 0 108 (dk_at dksX3_operand_0 12 rfl rfl)
theorem dX3_operand_15 : decode cX3_operand 15 = .ok (.iconst 0, 1) := dk_3 (dk_at dksX3_operand_0 15 rfl rfl)
theorem dX3_operand_16 : decode cX3_operand 16 = .ok (.istore 4, 2) := dk_54 4 (dk_at dksX3_operand_0 16 rfl rfl)
theorem dX3_operand_18 : decode cX3_operand 18 = .ok (.aload_n 0, 1) := dk_42 (dk_at dksX3_operand_0 18 rfl rfl)
theorem dX3_operand_19 : decode cX3_operand 19 = .ok (.invokevirtual 206, 3) := dk_182 0 206 (dk_at dksX3_operand_0 19 rfl rfl)
theorem dX3_operand_22 : decode cX3_operand 22 = .ok (.ifCond .eq 53, 3) := dk_153 0 53 (dk_at dksX3_operand_1 0 rfl rfl)
theorem dX3_operand_25 : decode cX3_operand 25 = .ok (.iload_n 2, 1) := dk_28 (dk_at dksX3_operand_1 3 rfl rfl)
theorem dX3_operand_26 : decode cX3_operand 26 = .ok (.ifCond .eq 49, 3) := dk_153 0 49 (dk_at dksX3_operand_1 4 rfl rfl)
theorem dX3_operand_29 : decode cX3_operand 29 = .ok (.aload_n 0, 1) := dk_42 (dk_at dksX3_operand_1 7 rfl rfl)
theorem dX3_operand_30 : decode cX3_operand 30 = .ok (.invokevirtual 238, 3) := dk_182 0 238 (dk_at dksX3_operand_1 8 rfl rfl)
theorem dX3_operand_33 : decode cX3_operand 33 = .ok (.bipush 17, 2) := dk_16 17 (dk_at dksX3_operand_1 11 rfl rfl)
theorem dX3_operand_35 : decode cX3_operand 35 = .ok (.if_icmp .ne 40, 3) := dk_160 0 40 (dk_at dksX3_operand_1 13 rfl rfl)
theorem dX3_operand_38 : decode cX3_operand 38 = .ok (.iload 4, 2) := dk_21 4 (dk_at dksX3_operand_1 16 rfl rfl)
theorem dX3_operand_40 : decode cX3_operand 40 = .ok (.bipush 6, 2) := dk_16 6 (dk_at dksX3_operand_1 18 rfl rfl)
theorem dX3_operand_42 : decode cX3_operand 42 = .ok (.if_icmp .ne 8, 3) := dk_160 0 8 (dk_at dksX3_operand_1 20 rfl rfl)
theorem dX3_operand_45 : decode cX3_operand 45 = .ok (.aload_n 0, 1) := dk_42 (dk_at dksX3_operand_1 23 rfl rfl)
theorem dX3_operand_46 : decode cX3_operand 46 = .ok (.iconst 2, 1) := dk_5 (dk_at dksX3_operand_2 0 rfl rfl)
theorem dX3_operand_47 : decode cX3_operand 47 = .ok (.invokevirtual 213, 3) := dk_182 0 213 (dk_at dksX3_operand_2 1 rfl rfl)
theorem dX3_operand_50 : decode cX3_operand 50 = .ok (.iinc 4 1, 3) := dk_132 4 1 (dk_at dksX3_operand_2 4 rfl rfl)
theorem dX3_operand_53 : decode cX3_operand 53 = .ok (.aload_n 0, 1) := dk_42 (dk_at dksX3_operand_2 7 rfl rfl)
theorem dX3_operand_54 : decode cX3_operand 54 = .ok (.invokevirtual 206, 3) := dk_182 0 206 (dk_at dksX3_operand_2 8 rfl rfl)
theorem dX3_operand_57 : decode cX3_operand 57 = .ok (.ifCond .ne 6, 3) := dk_154 0 6 (dk_at dksX3_operand_2 11 rfl rfl)
theorem dX3_operand_60 : decode cX3_operand 60 = .ok (.goto (-42), 3) := dk_167 255 214 (dk_at dksX3_operand_2 14 rfl rfl)
theorem dX3_operand_63 : decode cX3_operand 63 = .ok (.aload_n 0, 1) := dk_42 (dk_at dksX3_operand_2 17 rfl rfl)
theorem dX3_operand_64 : decode cX3_operand 64 = .ok (.iconst 3, 1) := dk_6 (dk_at dksX3_operand_2 18 rfl rfl)
theorem dX3_operand_65 : decode cX3_operand 65 = .ok (.invokevirtual 247, 3) := dk_182 0 247 (dk_at dksX3_operand_2 19 rfl rfl)
theorem dX3_operand_68 : decode cX3_operand 68 = .ok (.aload_n 0, 1) := dk_42 (dk_at dksX3_operand_2 22 rfl rfl)
theorem dX3_operand_69 : decode cX3_operand 69 = .ok (.invokevirtual 210, 3) := dk_182 0 210 (dk_at dksX3_operand_3 0 rfl rfl)
theorem dX3_operand_72 : decode cX3_operand 72 = .ok (.goto (-54), 3) := dk_167 255 202 (dk_at dksX3_operand_3 3 rfl rfl)
theorem dX3_operand_75 : decode cX3_operand 75 = .ok (.aload_n 0, 1) := dk_42 (dk_at dksX3_operand_3 6 rfl rfl)
theorem dX3_operand_76 : decode cX3_operand 76 = .ok (.invokevirtual 206, 3) := dk_182 0 206 (dk_at dksX3_operand_3 7 rfl rfl)
theorem dX3_operand_79 : decode cX3_operand 79 = .ok (.ifCond .eq 16, 3) := dk_153 0 16 (dk_at dksX3_operand_3 10 rfl rfl)
theorem dX3_operand_82 : decode cX3_operand 82 = .ok (.aload_n 0, 1) := dk_42 (dk_at dksX3_operand_3 13 rfl rfl)
theorem dX3_operand_83 : decode cX3_operand 83 = .ok (.bipush 40, 2) := dk_16 40 (dk_at dksX3_operand_3 14 rfl rfl)
theorem dX3_operand_85 : decode cX3_operand 85 = .ok (.invokevirtual 244, 3) := dk_182 0 244 (dk_at dksX3_operand_3 16 rfl rfl)
theorem dX3_operand_88 : decode cX3_operand 88 = .ok (.ifCond .eq 7, 3) := dk_153 0 7 (dk_at dksX3_operand_3 19 rfl rfl)
theorem dX3_operand_91 : decode cX3_operand 91 = .ok (.iconst 1, 1) := dk_4 (dk_at dksX3_operand_3 22 rfl rfl)
theorem dX3_operand_92 : decode cX3_operand 92 = .ok (.goto 4, 3) := dk_167 0 4 (dk_at dksX3_operand_4 0 rfl rfl)
theorem dX3_operand_95 : decode cX3_operand 95 = .ok (.iconst 0, 1) := dk_3 (dk_at dksX3_operand_4 3 rfl rfl)
theorem dX3_operand_96 : decode cX3_operand 96 = .ok (.istore_n 3, 1) := dk_62 (dk_at dksX3_operand_4 4 rfl rfl)
theorem dX3_operand_97 : decode cX3_operand 97 = .ok (.iload_n 3, 1) := dk_29 (dk_at dksX3_operand_4 5 rfl rfl)
theorem dX3_operand_98 : decode cX3_operand 98 = .ok (.ifCond .eq 19, 3) := dk_153 0 19 (dk_at dksX3_operand_4 6 rfl rfl)
theorem dX3_operand_101 : decode cX3_operand 101 = .ok (.aload_n 0, 1) := dk_42 (dk_at dksX3_operand_4 9 rfl rfl)
theorem dX3_operand_102 : decode cX3_operand 102 = .ok (.bipush 14, 2) := dk_16 14 (dk_at dksX3_operand_4 10 rfl rfl)
theorem dX3_operand_104 : decode cX3_operand 104 = .ok (.invokevirtual 247, 3) := dk_182 0 247 (dk_at dksX3_operand_4 12 rfl rfl)
theorem dX3_operand_107 : decode cX3_operand 107 = .ok (.aload_n 0, 1) := dk_42 (dk_at dksX3_operand_4 15 rfl rfl)
theorem dX3_operand_108 : decode cX3_operand 108 = .ok (.invokevirtual 210, 3) := dk_182 0 210 (dk_at dksX3_operand_4 16 rfl rfl)
theorem dX3_operand_111 : decode cX3_operand 111 = .ok (.aload_n 0, 1) := dk_42 (dk_at dksX3_operand_4 19 rfl rfl)
theorem dX3_operand_112 : decode cX3_operand 112 = .ok (.invokevirtual 250, 3) := dk_182 0 250 (dk_at dksX3_operand_4 20 rfl rfl)
theorem dX3_operand_115 : decode cX3_operand 115 = .ok (.iconst 1, 1) := dk_4 (dk_at dksX3_operand_4 23 rfl rfl)
theorem dX3_operand_116 : decode cX3_operand 116 = .ok (.istore_n 2, 1) := dk_61 (dk_at dksX3_operand_5 0 rfl rfl)
theorem dX3_operand_117 : decode cX3_operand 117 = .ok (.goto (-113), 3) := dk_167 255 143 (dk_at dksX3_operand_5 1 rfl rfl)
theorem dX3_operand_120 : decode cX3_operand 120 = .ok (.aload_n 0, 1) := dk_42 (dk_at dksX3_operand_5 4 rfl rfl)
theorem dX3_operand_121 : decode cX3_operand 121 = .ok (.invokevirtual 253, 3) := dk_182 0 253 (dk_at dksX3_operand_5 5 rfl rfl)
theorem dX3_operand_124 : decode cX3_operand 124 = .ok (.return_, 1) := dk_177 (dk_at dksX3_operand_5 8 rfl rfl)
abbrev cX3_waitsFor : ByteArray := prog_14_method_28_code
def yX3_waitsFor : MethodName := ⟨RX3, "waitsFor", "(I)V"⟩
def dkwX3_waitsFor_0 : List UInt8 := [42, 180, 0, 71, 42, 180, 0, 226, 27, 79, 42, 89, 180, 0, 226, 4, 96, 181, 0, 226, 177]
abbrev dktX3_waitsFor_0 : List UInt8 := dkwX3_waitsFor_0 ++ []
theorem dksX3_waitsFor_0 : cX3_waitsFor.data.toList.drop 0 = dktX3_waitsFor_0 := by decide +kernel
theorem dX3_waitsFor_0 : decode cX3_waitsFor 0 = .ok (.aload_n 0, 1) := dk_42 (dk_at dksX3_waitsFor_0 0 rfl rfl)
theorem dX3_waitsFor_1 : decode cX3_waitsFor 1 = .ok (.getfield 71, 3) := dk_180 0 71 (dk_at dksX3_waitsFor_0 1 rfl rfl)
theorem dX3_waitsFor_4 : decode cX3_waitsFor 4 = .ok (.aload_n 0, 1) := dk_42 (dk_at dksX3_waitsFor_0 4 rfl rfl)
theorem dX3_waitsFor_5 : decode cX3_waitsFor 5 = .ok (.getfield 226, 3) := dk_180 0 226 (dk_at dksX3_waitsFor_0 5 rfl rfl)
theorem dX3_waitsFor_8 : decode cX3_waitsFor 8 = .ok (.iload_n 1, 1) := dk_27 (dk_at dksX3_waitsFor_0 8 rfl rfl)
theorem dX3_waitsFor_9 : decode cX3_waitsFor 9 = .ok (.iastore, 1) := dk_79 (dk_at dksX3_waitsFor_0 9 rfl rfl)
theorem dX3_waitsFor_10 : decode cX3_waitsFor 10 = .ok (.aload_n 0, 1) := dk_42 (dk_at dksX3_waitsFor_0 10 rfl rfl)
theorem dX3_waitsFor_11 : decode cX3_waitsFor 11 = .ok (.dup, 1) := dk_89 (dk_at dksX3_waitsFor_0 11 rfl rfl)
theorem dX3_waitsFor_12 : decode cX3_waitsFor 12 = .ok (.getfield 226, 3) := dk_180 0 226 (dk_at dksX3_waitsFor_0 12 rfl rfl)
theorem dX3_waitsFor_15 : decode cX3_waitsFor 15 = .ok (.iconst 1, 1) := dk_4 (dk_at dksX3_waitsFor_0 15 rfl rfl)
theorem dX3_waitsFor_16 : decode cX3_waitsFor 16 = .ok (.iadd, 1) := dk_96 (dk_at dksX3_waitsFor_0 16 rfl rfl)
theorem dX3_waitsFor_17 : decode cX3_waitsFor 17 = .ok (.putfield 226, 3) := dk_181 0 226 (dk_at dksX3_waitsFor_0 17 rfl rfl)
theorem dX3_waitsFor_20 : decode cX3_waitsFor 20 = .ok (.return_, 1) := dk_177 (dk_at dksX3_waitsFor_0 20 rfl rfl)
abbrev cX3_part : ByteArray := prog_14_method_29_code
def yX3_part : MethodName := ⟨RX3, "part", "()V"⟩
def dkwX3_part_4 : List UInt8 := [182, 0, 206, 153, 0, 7, 42, 182, 0, 210, 177]
abbrev dktX3_part_4 : List UInt8 := dkwX3_part_4 ++ []
def dkwX3_part_3 : List UInt8 := [182, 0, 213, 42, 5, 182, 0, 235, 42, 27, 182, 0, 235, 167, 0, 8, 42, 4, 182, 0, 213, 42]
abbrev dktX3_part_3 : List UInt8 := dkwX3_part_3 ++ dktX3_part_4
def dkwX3_part_2 : List UInt8 := [180, 0, 180, 4, 160, 0, 36, 42, 182, 0, 238, 60, 27, 155, 0, 9, 27, 16, 6, 164, 0, 8, 42, 6]
abbrev dktX3_part_2 : List UInt8 := dkwX3_part_2 ++ dktX3_part_3
def dkwX3_part_1 : List UInt8 := [42, 5, 182, 0, 213, 42, 4, 182, 0, 235, 42, 42, 180, 0, 174, 182, 0, 235, 167, 0, 49, 42]
abbrev dktX3_part_1 : List UInt8 := dkwX3_part_1 ++ dktX3_part_2
def dkwX3_part_0 : List UInt8 := [42, 182, 0, 206, 154, 0, 4, 177, 42, 180, 0, 180, 5, 160, 0, 32, 42, 180, 0, 190, 7, 164, 0, 8]
abbrev dktX3_part_0 : List UInt8 := dkwX3_part_0 ++ dktX3_part_1
theorem dksX3_part_0 : cX3_part.data.toList.drop 0 = dktX3_part_0 := by decide +kernel
theorem dksX3_part_1 : cX3_part.data.toList.drop 24 = dktX3_part_1 := dk_seg dksX3_part_0 24 rfl rfl
theorem dksX3_part_2 : cX3_part.data.toList.drop 46 = dktX3_part_2 := dk_seg dksX3_part_1 22 rfl rfl
theorem dksX3_part_3 : cX3_part.data.toList.drop 70 = dktX3_part_3 := dk_seg dksX3_part_2 24 rfl rfl
theorem dksX3_part_4 : cX3_part.data.toList.drop 92 = dktX3_part_4 := dk_seg dksX3_part_3 22 rfl rfl
theorem dX3_part_0 : decode cX3_part 0 = .ok (.aload_n 0, 1) := dk_42 (dk_at dksX3_part_0 0 rfl rfl)
theorem dX3_part_1 : decode cX3_part 1 = .ok (.invokevirtual 206, 3) := dk_182 0 206 (dk_at dksX3_part_0 1 rfl rfl)
theorem dX3_part_4 : decode cX3_part 4 = .ok (.ifCond .ne 4, 3) := dk_154 0 4 (dk_at dksX3_part_0 4 rfl rfl)
theorem dX3_part_7 : decode cX3_part 7 = .ok (.return_, 1) := dk_177 (dk_at dksX3_part_0 7 rfl rfl)
theorem dX3_part_8 : decode cX3_part 8 = .ok (.aload_n 0, 1) := dk_42 (dk_at dksX3_part_0 8 rfl rfl)
theorem dX3_part_9 : decode cX3_part 9 = .ok (.getfield 180, 3) := dk_180 0 180 (dk_at dksX3_part_0 9 rfl rfl)
theorem dX3_part_12 : decode cX3_part 12 = .ok (.iconst 2, 1) := dk_5 (dk_at dksX3_part_0 12 rfl rfl)
theorem dX3_part_13 : decode cX3_part 13 = .ok (.if_icmp .ne 32, 3) := dk_160 0 32 (dk_at dksX3_part_0 13 rfl rfl)
theorem dX3_part_16 : decode cX3_part 16 = .ok (.aload_n 0, 1) := dk_42 (dk_at dksX3_part_0 16 rfl rfl)
theorem dX3_part_17 : decode cX3_part 17 = .ok (.getfield 190, 3) := dk_180 0 190 (dk_at dksX3_part_0 17 rfl rfl)
theorem dX3_part_20 : decode cX3_part 20 = .ok (.iconst 4, 1) := dk_7 (dk_at dksX3_part_0 20 rfl rfl)
theorem dX3_part_21 : decode cX3_part 21 = .ok (.if_icmp .le 8, 3) := dk_164 0 8 (dk_at dksX3_part_0 21 rfl rfl)
theorem dX3_part_24 : decode cX3_part 24 = .ok (.aload_n 0, 1) := dk_42 (dk_at dksX3_part_1 0 rfl rfl)
theorem dX3_part_25 : decode cX3_part 25 = .ok (.iconst 2, 1) := dk_5 (dk_at dksX3_part_1 1 rfl rfl)
theorem dX3_part_26 : decode cX3_part 26 = .ok (.invokevirtual 213, 3) := dk_182 0 213 (dk_at dksX3_part_1 2 rfl rfl)
theorem dX3_part_29 : decode cX3_part 29 = .ok (.aload_n 0, 1) := dk_42 (dk_at dksX3_part_1 5 rfl rfl)
theorem dX3_part_30 : decode cX3_part 30 = .ok (.iconst 1, 1) := dk_4 (dk_at dksX3_part_1 6 rfl rfl)
theorem dX3_part_31 : decode cX3_part 31 = .ok (.invokevirtual 235, 3) := dk_182 0 235 (dk_at dksX3_part_1 7 rfl rfl)
theorem dX3_part_34 : decode cX3_part 34 = .ok (.aload_n 0, 1) := dk_42 (dk_at dksX3_part_1 10 rfl rfl)
theorem dX3_part_35 : decode cX3_part 35 = .ok (.aload_n 0, 1) := dk_42 (dk_at dksX3_part_1 11 rfl rfl)
theorem dX3_part_36 : decode cX3_part 36 = .ok (.getfield 174, 3) := dk_180 0 174 (dk_at dksX3_part_1 12 rfl rfl)
theorem dX3_part_39 : decode cX3_part 39 = .ok (.invokevirtual 235, 3) := dk_182 0 235 (dk_at dksX3_part_1 15 rfl rfl)
theorem dX3_part_42 : decode cX3_part 42 = .ok (.goto 49, 3) := dk_167 0 49 (dk_at dksX3_part_1 18 rfl rfl)
theorem dX3_part_45 : decode cX3_part 45 = .ok (.aload_n 0, 1) := dk_42 (dk_at dksX3_part_1 21 rfl rfl)
theorem dX3_part_46 : decode cX3_part 46 = .ok (.getfield 180, 3) := dk_180 0 180 (dk_at dksX3_part_2 0 rfl rfl)
theorem dX3_part_49 : decode cX3_part 49 = .ok (.iconst 1, 1) := dk_4 (dk_at dksX3_part_2 3 rfl rfl)
theorem dX3_part_50 : decode cX3_part 50 = .ok (.if_icmp .ne 36, 3) := dk_160 0 36 (dk_at dksX3_part_2 4 rfl rfl)
theorem dX3_part_53 : decode cX3_part 53 = .ok (.aload_n 0, 1) := dk_42 (dk_at dksX3_part_2 7 rfl rfl)
theorem dX3_part_54 : decode cX3_part 54 = .ok (.invokevirtual 238, 3) := dk_182 0 238 (dk_at dksX3_part_2 8 rfl rfl)
theorem dX3_part_57 : decode cX3_part 57 = .ok (.istore_n 1, 1) := dk_60 (dk_at dksX3_part_2 11 rfl rfl)
theorem dX3_part_58 : decode cX3_part 58 = .ok (.iload_n 1, 1) := dk_27 (dk_at dksX3_part_2 12 rfl rfl)
theorem dX3_part_59 : decode cX3_part 59 = .ok (.ifCond .lt 9, 3) := dk_155 0 9 (dk_at dksX3_part_2 13 rfl rfl)
theorem dX3_part_62 : decode cX3_part 62 = .ok (.iload_n 1, 1) := dk_27 (dk_at dksX3_part_2 16 rfl rfl)
theorem dX3_part_63 : decode cX3_part 63 = .ok (.bipush 6, 2) := dk_16 6 (dk_at dksX3_part_2 17 rfl rfl)
theorem dX3_part_65 : decode cX3_part 65 = .ok (.if_icmp .le 8, 3) := dk_164 0 8 (dk_at dksX3_part_2 19 rfl rfl)
theorem dX3_part_68 : decode cX3_part 68 = .ok (.aload_n 0, 1) := dk_42 (dk_at dksX3_part_2 22 rfl rfl)
theorem dX3_part_69 : decode cX3_part 69 = .ok (.iconst 3, 1) := dk_6 (dk_at dksX3_part_2 23 rfl rfl)
theorem dX3_part_70 : decode cX3_part 70 = .ok (.invokevirtual 213, 3) := dk_182 0 213 (dk_at dksX3_part_3 0 rfl rfl)
theorem dX3_part_73 : decode cX3_part 73 = .ok (.aload_n 0, 1) := dk_42 (dk_at dksX3_part_3 3 rfl rfl)
theorem dX3_part_74 : decode cX3_part 74 = .ok (.iconst 2, 1) := dk_5 (dk_at dksX3_part_3 4 rfl rfl)
theorem dX3_part_75 : decode cX3_part 75 = .ok (.invokevirtual 235, 3) := dk_182 0 235 (dk_at dksX3_part_3 5 rfl rfl)
theorem dX3_part_78 : decode cX3_part 78 = .ok (.aload_n 0, 1) := dk_42 (dk_at dksX3_part_3 8 rfl rfl)
theorem dX3_part_79 : decode cX3_part 79 = .ok (.iload_n 1, 1) := dk_27 (dk_at dksX3_part_3 9 rfl rfl)
theorem dX3_part_80 : decode cX3_part 80 = .ok (.invokevirtual 235, 3) := dk_182 0 235 (dk_at dksX3_part_3 10 rfl rfl)
theorem dX3_part_83 : decode cX3_part 83 = .ok (.goto 8, 3) := dk_167 0 8 (dk_at dksX3_part_3 13 rfl rfl)
theorem dX3_part_86 : decode cX3_part 86 = .ok (.aload_n 0, 1) := dk_42 (dk_at dksX3_part_3 16 rfl rfl)
theorem dX3_part_87 : decode cX3_part 87 = .ok (.iconst 1, 1) := dk_4 (dk_at dksX3_part_3 17 rfl rfl)
theorem dX3_part_88 : decode cX3_part 88 = .ok (.invokevirtual 213, 3) := dk_182 0 213 (dk_at dksX3_part_3 18 rfl rfl)
theorem dX3_part_91 : decode cX3_part 91 = .ok (.aload_n 0, 1) := dk_42 (dk_at dksX3_part_3 21 rfl rfl)
theorem dX3_part_92 : decode cX3_part 92 = .ok (.invokevirtual 206, 3) := dk_182 0 206 (dk_at dksX3_part_4 0 rfl rfl)
theorem dX3_part_95 : decode cX3_part 95 = .ok (.ifCond .eq 7, 3) := dk_153 0 7 (dk_at dksX3_part_4 3 rfl rfl)
theorem dX3_part_98 : decode cX3_part 98 = .ok (.aload_n 0, 1) := dk_42 (dk_at dksX3_part_4 6 rfl rfl)
theorem dX3_part_99 : decode cX3_part 99 = .ok (.invokevirtual 210, 3) := dk_182 0 210 (dk_at dksX3_part_4 7 rfl rfl)
theorem dX3_part_102 : decode cX3_part 102 = .ok (.return_, 1) := dk_177 (dk_at dksX3_part_4 10 rfl rfl)
abbrev cX3_puts : ByteArray := prog_14_method_24_code
def yX3_puts : MethodName := ⟨RX3, "puts", "(I)V"⟩
def dkwX3_puts_0 : List UInt8 := [42, 180, 0, 68, 42, 180, 0, 223, 27, 79, 42, 89, 180, 0, 223, 4, 96, 181, 0, 223, 177]
abbrev dktX3_puts_0 : List UInt8 := dkwX3_puts_0 ++ []
theorem dksX3_puts_0 : cX3_puts.data.toList.drop 0 = dktX3_puts_0 := by decide +kernel
theorem dX3_puts_0 : decode cX3_puts 0 = .ok (.aload_n 0, 1) := dk_42 (dk_at dksX3_puts_0 0 rfl rfl)
theorem dX3_puts_1 : decode cX3_puts 1 = .ok (.getfield 68, 3) := dk_180 0 68 (dk_at dksX3_puts_0 1 rfl rfl)
theorem dX3_puts_4 : decode cX3_puts 4 = .ok (.aload_n 0, 1) := dk_42 (dk_at dksX3_puts_0 4 rfl rfl)
theorem dX3_puts_5 : decode cX3_puts 5 = .ok (.getfield 223, 3) := dk_180 0 223 (dk_at dksX3_puts_0 5 rfl rfl)
theorem dX3_puts_8 : decode cX3_puts 8 = .ok (.iload_n 1, 1) := dk_27 (dk_at dksX3_puts_0 8 rfl rfl)
theorem dX3_puts_9 : decode cX3_puts 9 = .ok (.iastore, 1) := dk_79 (dk_at dksX3_puts_0 9 rfl rfl)
theorem dX3_puts_10 : decode cX3_puts 10 = .ok (.aload_n 0, 1) := dk_42 (dk_at dksX3_puts_0 10 rfl rfl)
theorem dX3_puts_11 : decode cX3_puts 11 = .ok (.dup, 1) := dk_89 (dk_at dksX3_puts_0 11 rfl rfl)
theorem dX3_puts_12 : decode cX3_puts 12 = .ok (.getfield 223, 3) := dk_180 0 223 (dk_at dksX3_puts_0 12 rfl rfl)
theorem dX3_puts_15 : decode cX3_puts 15 = .ok (.iconst 1, 1) := dk_4 (dk_at dksX3_puts_0 15 rfl rfl)
theorem dX3_puts_16 : decode cX3_puts 16 = .ok (.iadd, 1) := dk_96 (dk_at dksX3_puts_0 16 rfl rfl)
theorem dX3_puts_17 : decode cX3_puts 17 = .ok (.putfield 223, 3) := dk_181 0 223 (dk_at dksX3_puts_0 17 rfl rfl)
theorem dX3_puts_20 : decode cX3_puts 20 = .ok (.return_, 1) := dk_177 (dk_at dksX3_puts_0 20 rfl rfl)
abbrev cX3_drops : ByteArray := prog_14_method_27_code
def yX3_drops : MethodName := ⟨RX3, "drops", "(I)V"⟩
def dkwX3_drops_2 : List UInt8 := [100, 181, 0, 226, 42, 42, 180, 0, 71, 42, 180, 0, 226, 46, 182, 0, 235, 167, 255, 191, 177]
abbrev dktX3_drops_2 : List UInt8 := dkwX3_drops_2 ++ []
def dkwX3_drops_1 : List UInt8 := [42, 180, 0, 71, 42, 180, 0, 226, 4, 100, 46, 184, 0, 232, 27, 161, 0, 29, 42, 89, 180, 0, 226, 4]
abbrev dktX3_drops_1 : List UInt8 := dkwX3_drops_1 ++ dktX3_drops_2
def dkwX3_drops_0 : List UInt8 := [42, 180, 0, 226, 158, 0, 64, 42, 180, 0, 71, 42, 180, 0, 226, 4, 100, 46, 184, 0, 229, 154, 0, 47]
abbrev dktX3_drops_0 : List UInt8 := dkwX3_drops_0 ++ dktX3_drops_1
theorem dksX3_drops_0 : cX3_drops.data.toList.drop 0 = dktX3_drops_0 := by decide +kernel
theorem dksX3_drops_1 : cX3_drops.data.toList.drop 24 = dktX3_drops_1 := dk_seg dksX3_drops_0 24 rfl rfl
theorem dksX3_drops_2 : cX3_drops.data.toList.drop 48 = dktX3_drops_2 := dk_seg dksX3_drops_1 24 rfl rfl
theorem dX3_drops_0 : decode cX3_drops 0 = .ok (.aload_n 0, 1) := dk_42 (dk_at dksX3_drops_0 0 rfl rfl)
theorem dX3_drops_1 : decode cX3_drops 1 = .ok (.getfield 226, 3) := dk_180 0 226 (dk_at dksX3_drops_0 1 rfl rfl)
theorem dX3_drops_4 : decode cX3_drops 4 = .ok (.ifCond .le 64, 3) := dk_158 0 64 (dk_at dksX3_drops_0 4 rfl rfl)
theorem dX3_drops_7 : decode cX3_drops 7 = .ok (.aload_n 0, 1) := dk_42 (dk_at dksX3_drops_0 7 rfl rfl)
theorem dX3_drops_8 : decode cX3_drops 8 = .ok (.getfield 71, 3) := dk_180 0 71 (dk_at dksX3_drops_0 8 rfl rfl)
theorem dX3_drops_11 : decode cX3_drops 11 = .ok (.aload_n 0, 1) := dk_42 (dk_at dksX3_drops_0 11 rfl rfl)
theorem dX3_drops_12 : decode cX3_drops 12 = .ok (.getfield 226, 3) := dk_180 0 226 (dk_at dksX3_drops_0 12 rfl rfl)
theorem dX3_drops_15 : decode cX3_drops 15 = .ok (.iconst 1, 1) := dk_4 (dk_at dksX3_drops_0 15 rfl rfl)
theorem dX3_drops_16 : decode cX3_drops 16 = .ok (.isub, 1) := dk_100 (dk_at dksX3_drops_0 16 rfl rfl)
theorem dX3_drops_17 : decode cX3_drops 17 = .ok (.iaload, 1) := dk_46 (dk_at dksX3_drops_0 17 rfl rfl)
theorem dX3_drops_18 : decode cX3_drops 18 = .ok (.invokestatic 229, 3) := dk_184 0 229 (dk_at dksX3_drops_0 18 rfl rfl)
theorem dX3_drops_21 : decode cX3_drops 21 = .ok (.ifCond .ne 47, 3) := dk_154 0 47 (dk_at dksX3_drops_0 21 rfl rfl)
theorem dX3_drops_24 : decode cX3_drops 24 = .ok (.aload_n 0, 1) := dk_42 (dk_at dksX3_drops_1 0 rfl rfl)
theorem dX3_drops_25 : decode cX3_drops 25 = .ok (.getfield 71, 3) := dk_180 0 71 (dk_at dksX3_drops_1 1 rfl rfl)
theorem dX3_drops_28 : decode cX3_drops 28 = .ok (.aload_n 0, 1) := dk_42 (dk_at dksX3_drops_1 4 rfl rfl)
theorem dX3_drops_29 : decode cX3_drops 29 = .ok (.getfield 226, 3) := dk_180 0 226 (dk_at dksX3_drops_1 5 rfl rfl)
theorem dX3_drops_32 : decode cX3_drops 32 = .ok (.iconst 1, 1) := dk_4 (dk_at dksX3_drops_1 8 rfl rfl)
theorem dX3_drops_33 : decode cX3_drops 33 = .ok (.isub, 1) := dk_100 (dk_at dksX3_drops_1 9 rfl rfl)
theorem dX3_drops_34 : decode cX3_drops 34 = .ok (.iaload, 1) := dk_46 (dk_at dksX3_drops_1 10 rfl rfl)
theorem dX3_drops_35 : decode cX3_drops 35 = .ok (.invokestatic 232, 3) := dk_184 0 232 (dk_at dksX3_drops_1 11 rfl rfl)
theorem dX3_drops_38 : decode cX3_drops 38 = .ok (.iload_n 1, 1) := dk_27 (dk_at dksX3_drops_1 14 rfl rfl)
theorem dX3_drops_39 : decode cX3_drops 39 = .ok (.if_icmp .lt 29, 3) := dk_161 0 29 (dk_at dksX3_drops_1 15 rfl rfl)
theorem dX3_drops_42 : decode cX3_drops 42 = .ok (.aload_n 0, 1) := dk_42 (dk_at dksX3_drops_1 18 rfl rfl)
theorem dX3_drops_43 : decode cX3_drops 43 = .ok (.dup, 1) := dk_89 (dk_at dksX3_drops_1 19 rfl rfl)
theorem dX3_drops_44 : decode cX3_drops 44 = .ok (.getfield 226, 3) := dk_180 0 226 (dk_at dksX3_drops_1 20 rfl rfl)
theorem dX3_drops_47 : decode cX3_drops 47 = .ok (.iconst 1, 1) := dk_4 (dk_at dksX3_drops_1 23 rfl rfl)
theorem dX3_drops_48 : decode cX3_drops 48 = .ok (.isub, 1) := dk_100 (dk_at dksX3_drops_2 0 rfl rfl)
theorem dX3_drops_49 : decode cX3_drops 49 = .ok (.putfield 226, 3) := dk_181 0 226 (dk_at dksX3_drops_2 1 rfl rfl)
theorem dX3_drops_52 : decode cX3_drops 52 = .ok (.aload_n 0, 1) := dk_42 (dk_at dksX3_drops_2 4 rfl rfl)
theorem dX3_drops_53 : decode cX3_drops 53 = .ok (.aload_n 0, 1) := dk_42 (dk_at dksX3_drops_2 5 rfl rfl)
theorem dX3_drops_54 : decode cX3_drops 54 = .ok (.getfield 71, 3) := dk_180 0 71 (dk_at dksX3_drops_2 6 rfl rfl)
theorem dX3_drops_57 : decode cX3_drops 57 = .ok (.aload_n 0, 1) := dk_42 (dk_at dksX3_drops_2 9 rfl rfl)
theorem dX3_drops_58 : decode cX3_drops 58 = .ok (.getfield 226, 3) := dk_180 0 226 (dk_at dksX3_drops_2 10 rfl rfl)
theorem dX3_drops_61 : decode cX3_drops 61 = .ok (.iaload, 1) := dk_46 (dk_at dksX3_drops_2 13 rfl rfl)
theorem dX3_drops_62 : decode cX3_drops 62 = .ok (.invokevirtual 235, 3) := dk_182 0 235 (dk_at dksX3_drops_2 14 rfl rfl)
theorem dX3_drops_65 : decode cX3_drops 65 = .ok (.goto (-65), 3) := dk_167 255 191 (dk_at dksX3_drops_2 17 rfl rfl)
theorem dX3_drops_68 : decode cX3_drops 68 = .ok (.return_, 1) := dk_177 (dk_at dksX3_drops_2 20 rfl rfl)
abbrev cX3_isOpen : ByteArray := prog_14_method_25_code
def yX3_isOpen : MethodName := ⟨RX3, "isOpen", "(I)Z"⟩
def dkwX3_isOpen_0 : List UInt8 := [26, 16, 14, 161, 0, 7, 4, 167, 0, 4, 3, 172]
abbrev dktX3_isOpen_0 : List UInt8 := dkwX3_isOpen_0 ++ []
theorem dksX3_isOpen_0 : cX3_isOpen.data.toList.drop 0 = dktX3_isOpen_0 := by decide +kernel
theorem dX3_isOpen_0 : decode cX3_isOpen 0 = .ok (.iload_n 0, 1) := dk_26 (dk_at dksX3_isOpen_0 0 rfl rfl)
theorem dX3_isOpen_1 : decode cX3_isOpen 1 = .ok (.bipush 14, 2) := dk_16 14 (dk_at dksX3_isOpen_0 1 rfl rfl)
theorem dX3_isOpen_3 : decode cX3_isOpen 3 = .ok (.if_icmp .lt 7, 3) := dk_161 0 7 (dk_at dksX3_isOpen_0 3 rfl rfl)
theorem dX3_isOpen_6 : decode cX3_isOpen 6 = .ok (.iconst 1, 1) := dk_4 (dk_at dksX3_isOpen_0 6 rfl rfl)
theorem dX3_isOpen_7 : decode cX3_isOpen 7 = .ok (.goto 4, 3) := dk_167 0 4 (dk_at dksX3_isOpen_0 7 rfl rfl)
theorem dX3_isOpen_10 : decode cX3_isOpen 10 = .ok (.iconst 0, 1) := dk_3 (dk_at dksX3_isOpen_0 10 rfl rfl)
theorem dX3_isOpen_11 : decode cX3_isOpen 11 = .ok (.ireturn, 1) := dk_172 (dk_at dksX3_isOpen_0 11 rfl rfl)
abbrev cX3_strength : ByteArray := prog_14_method_26_code
def yX3_strength : MethodName := ⟨RX3, "strength", "(I)I"⟩
def dkwX3_strength_2 : List UInt8 := [159, 0, 9, 26, 16, 9, 160, 0, 7, 8, 167, 0, 5, 16, 6, 172]
abbrev dktX3_strength_2 : List UInt8 := dkwX3_strength_2 ++ []
def dkwX3_strength_1 : List UInt8 := [167, 0, 37, 26, 16, 6, 159, 0, 9, 26, 16, 7, 160, 0, 7, 7, 167, 0, 21, 26, 16, 8]
abbrev dktX3_strength_1 : List UInt8 := dkwX3_strength_1 ++ dktX3_strength_2
def dkwX3_strength_0 : List UInt8 := [26, 8, 160, 0, 7, 4, 167, 0, 55, 26, 7, 160, 0, 7, 5, 167, 0, 46, 26, 6, 160, 0, 7, 6]
abbrev dktX3_strength_0 : List UInt8 := dkwX3_strength_0 ++ dktX3_strength_1
theorem dksX3_strength_0 : cX3_strength.data.toList.drop 0 = dktX3_strength_0 := by decide +kernel
theorem dksX3_strength_1 : cX3_strength.data.toList.drop 24 = dktX3_strength_1 := dk_seg dksX3_strength_0 24 rfl rfl
theorem dksX3_strength_2 : cX3_strength.data.toList.drop 46 = dktX3_strength_2 := dk_seg dksX3_strength_1 22 rfl rfl
theorem dX3_strength_0 : decode cX3_strength 0 = .ok (.iload_n 0, 1) := dk_26 (dk_at dksX3_strength_0 0 rfl rfl)
theorem dX3_strength_1 : decode cX3_strength 1 = .ok (.iconst 5, 1) := dk_8 (dk_at dksX3_strength_0 1 rfl rfl)
theorem dX3_strength_2 : decode cX3_strength 2 = .ok (.if_icmp .ne 7, 3) := dk_160 0 7 (dk_at dksX3_strength_0 2 rfl rfl)
theorem dX3_strength_5 : decode cX3_strength 5 = .ok (.iconst 1, 1) := dk_4 (dk_at dksX3_strength_0 5 rfl rfl)
theorem dX3_strength_6 : decode cX3_strength 6 = .ok (.goto 55, 3) := dk_167 0 55 (dk_at dksX3_strength_0 6 rfl rfl)
theorem dX3_strength_9 : decode cX3_strength 9 = .ok (.iload_n 0, 1) := dk_26 (dk_at dksX3_strength_0 9 rfl rfl)
theorem dX3_strength_10 : decode cX3_strength 10 = .ok (.iconst 4, 1) := dk_7 (dk_at dksX3_strength_0 10 rfl rfl)
theorem dX3_strength_11 : decode cX3_strength 11 = .ok (.if_icmp .ne 7, 3) := dk_160 0 7 (dk_at dksX3_strength_0 11 rfl rfl)
theorem dX3_strength_14 : decode cX3_strength 14 = .ok (.iconst 2, 1) := dk_5 (dk_at dksX3_strength_0 14 rfl rfl)
theorem dX3_strength_15 : decode cX3_strength 15 = .ok (.goto 46, 3) := dk_167 0 46 (dk_at dksX3_strength_0 15 rfl rfl)
theorem dX3_strength_18 : decode cX3_strength 18 = .ok (.iload_n 0, 1) := dk_26 (dk_at dksX3_strength_0 18 rfl rfl)
theorem dX3_strength_19 : decode cX3_strength 19 = .ok (.iconst 3, 1) := dk_6 (dk_at dksX3_strength_0 19 rfl rfl)
theorem dX3_strength_20 : decode cX3_strength 20 = .ok (.if_icmp .ne 7, 3) := dk_160 0 7 (dk_at dksX3_strength_0 20 rfl rfl)
theorem dX3_strength_23 : decode cX3_strength 23 = .ok (.iconst 3, 1) := dk_6 (dk_at dksX3_strength_0 23 rfl rfl)
theorem dX3_strength_24 : decode cX3_strength 24 = .ok (.goto 37, 3) := dk_167 0 37 (dk_at dksX3_strength_1 0 rfl rfl)
theorem dX3_strength_27 : decode cX3_strength 27 = .ok (.iload_n 0, 1) := dk_26 (dk_at dksX3_strength_1 3 rfl rfl)
theorem dX3_strength_28 : decode cX3_strength 28 = .ok (.bipush 6, 2) := dk_16 6 (dk_at dksX3_strength_1 4 rfl rfl)
theorem dX3_strength_30 : decode cX3_strength 30 = .ok (.if_icmp .eq 9, 3) := dk_159 0 9 (dk_at dksX3_strength_1 6 rfl rfl)
theorem dX3_strength_33 : decode cX3_strength 33 = .ok (.iload_n 0, 1) := dk_26 (dk_at dksX3_strength_1 9 rfl rfl)
theorem dX3_strength_34 : decode cX3_strength 34 = .ok (.bipush 7, 2) := dk_16 7 (dk_at dksX3_strength_1 10 rfl rfl)
theorem dX3_strength_36 : decode cX3_strength 36 = .ok (.if_icmp .ne 7, 3) := dk_160 0 7 (dk_at dksX3_strength_1 12 rfl rfl)
theorem dX3_strength_39 : decode cX3_strength 39 = .ok (.iconst 4, 1) := dk_7 (dk_at dksX3_strength_1 15 rfl rfl)
theorem dX3_strength_40 : decode cX3_strength 40 = .ok (.goto 21, 3) := dk_167 0 21 (dk_at dksX3_strength_1 16 rfl rfl)
theorem dX3_strength_43 : decode cX3_strength 43 = .ok (.iload_n 0, 1) := dk_26 (dk_at dksX3_strength_1 19 rfl rfl)
theorem dX3_strength_44 : decode cX3_strength 44 = .ok (.bipush 8, 2) := dk_16 8 (dk_at dksX3_strength_1 20 rfl rfl)
theorem dX3_strength_46 : decode cX3_strength 46 = .ok (.if_icmp .eq 9, 3) := dk_159 0 9 (dk_at dksX3_strength_2 0 rfl rfl)
theorem dX3_strength_49 : decode cX3_strength 49 = .ok (.iload_n 0, 1) := dk_26 (dk_at dksX3_strength_2 3 rfl rfl)
theorem dX3_strength_50 : decode cX3_strength 50 = .ok (.bipush 9, 2) := dk_16 9 (dk_at dksX3_strength_2 4 rfl rfl)
theorem dX3_strength_52 : decode cX3_strength 52 = .ok (.if_icmp .ne 7, 3) := dk_160 0 7 (dk_at dksX3_strength_2 6 rfl rfl)
theorem dX3_strength_55 : decode cX3_strength 55 = .ok (.iconst 5, 1) := dk_8 (dk_at dksX3_strength_2 9 rfl rfl)
theorem dX3_strength_56 : decode cX3_strength 56 = .ok (.goto 5, 3) := dk_167 0 5 (dk_at dksX3_strength_2 10 rfl rfl)
theorem dX3_strength_59 : decode cX3_strength 59 = .ok (.bipush 6, 2) := dk_16 6 (dk_at dksX3_strength_2 13 rfl rfl)
theorem dX3_strength_61 : decode cX3_strength 61 = .ok (.ireturn, 1) := dk_172 (dk_at dksX3_strength_2 15 rfl rfl)
abbrev cX3_isOpened : ByteArray := prog_14_method_32_code
def yX3_isOpened : MethodName := ⟨RX3, "isOpened", "()Z"⟩
def dkwX3_isOpened_1 : List UInt8 := [132, 1, 255, 167, 255, 237, 27, 155, 0, 7, 4, 167, 0, 4, 3, 172]
abbrev dktX3_isOpened_1 : List UInt8 := dkwX3_isOpened_1 ++ []
def dkwX3_isOpened_0 : List UInt8 := [42, 180, 0, 226, 4, 100, 60, 27, 155, 0, 21, 42, 180, 0, 71, 27, 46, 184, 0, 229, 154, 0, 9]
abbrev dktX3_isOpened_0 : List UInt8 := dkwX3_isOpened_0 ++ dktX3_isOpened_1
theorem dksX3_isOpened_0 : cX3_isOpened.data.toList.drop 0 = dktX3_isOpened_0 := by decide +kernel
theorem dksX3_isOpened_1 : cX3_isOpened.data.toList.drop 23 = dktX3_isOpened_1 := dk_seg dksX3_isOpened_0 23 rfl rfl
theorem dX3_isOpened_0 : decode cX3_isOpened 0 = .ok (.aload_n 0, 1) := dk_42 (dk_at dksX3_isOpened_0 0 rfl rfl)
theorem dX3_isOpened_1 : decode cX3_isOpened 1 = .ok (.getfield 226, 3) := dk_180 0 226 (dk_at dksX3_isOpened_0 1 rfl rfl)
theorem dX3_isOpened_4 : decode cX3_isOpened 4 = .ok (.iconst 1, 1) := dk_4 (dk_at dksX3_isOpened_0 4 rfl rfl)
theorem dX3_isOpened_5 : decode cX3_isOpened 5 = .ok (.isub, 1) := dk_100 (dk_at dksX3_isOpened_0 5 rfl rfl)
theorem dX3_isOpened_6 : decode cX3_isOpened 6 = .ok (.istore_n 1, 1) := dk_60 (dk_at dksX3_isOpened_0 6 rfl rfl)
theorem dX3_isOpened_7 : decode cX3_isOpened 7 = .ok (.iload_n 1, 1) := dk_27 (dk_at dksX3_isOpened_0 7 rfl rfl)
theorem dX3_isOpened_8 : decode cX3_isOpened 8 = .ok (.ifCond .lt 21, 3) := dk_155 0 21 (dk_at dksX3_isOpened_0 8 rfl rfl)
theorem dX3_isOpened_11 : decode cX3_isOpened 11 = .ok (.aload_n 0, 1) := dk_42 (dk_at dksX3_isOpened_0 11 rfl rfl)
theorem dX3_isOpened_12 : decode cX3_isOpened 12 = .ok (.getfield 71, 3) := dk_180 0 71 (dk_at dksX3_isOpened_0 12 rfl rfl)
theorem dX3_isOpened_15 : decode cX3_isOpened 15 = .ok (.iload_n 1, 1) := dk_27 (dk_at dksX3_isOpened_0 15 rfl rfl)
theorem dX3_isOpened_16 : decode cX3_isOpened 16 = .ok (.iaload, 1) := dk_46 (dk_at dksX3_isOpened_0 16 rfl rfl)
theorem dX3_isOpened_17 : decode cX3_isOpened 17 = .ok (.invokestatic 229, 3) := dk_184 0 229 (dk_at dksX3_isOpened_0 17 rfl rfl)
theorem dX3_isOpened_20 : decode cX3_isOpened 20 = .ok (.ifCond .ne 9, 3) := dk_154 0 9 (dk_at dksX3_isOpened_0 20 rfl rfl)
theorem dX3_isOpened_23 : decode cX3_isOpened 23 = .ok (.iinc 1 (-1), 3) := dk_132 1 255 (dk_at dksX3_isOpened_1 0 rfl rfl)
theorem dX3_isOpened_26 : decode cX3_isOpened 26 = .ok (.goto (-19), 3) := dk_167 255 237 (dk_at dksX3_isOpened_1 3 rfl rfl)
theorem dX3_isOpened_29 : decode cX3_isOpened 29 = .ok (.iload_n 1, 1) := dk_27 (dk_at dksX3_isOpened_1 6 rfl rfl)
theorem dX3_isOpened_30 : decode cX3_isOpened 30 = .ok (.ifCond .lt 7, 3) := dk_155 0 7 (dk_at dksX3_isOpened_1 7 rfl rfl)
theorem dX3_isOpened_33 : decode cX3_isOpened 33 = .ok (.iconst 1, 1) := dk_4 (dk_at dksX3_isOpened_1 10 rfl rfl)
theorem dX3_isOpened_34 : decode cX3_isOpened 34 = .ok (.goto 4, 3) := dk_167 0 4 (dk_at dksX3_isOpened_1 11 rfl rfl)
theorem dX3_isOpened_37 : decode cX3_isOpened 37 = .ok (.iconst 0, 1) := dk_3 (dk_at dksX3_isOpened_1 14 rfl rfl)
theorem dX3_isOpened_38 : decode cX3_isOpened 38 = .ok (.ireturn, 1) := dk_172 (dk_at dksX3_isOpened_1 15 rfl rfl)
abbrev cX3_closes : ByteArray := prog_14_method_33_code
def yX3_closes : MethodName := ⟨RX3, "closes", "()V"⟩
def dkwX3_closes_1 : List UInt8 := [181, 0, 241, 42, 182, 0, 210, 177]
abbrev dktX3_closes_1 : List UInt8 := dkwX3_closes_1 ++ []
def dkwX3_closes_0 : List UInt8 := [42, 3, 182, 1, 0, 42, 89, 180, 0, 226, 4, 100, 181, 0, 226, 42, 89, 180, 0, 241, 4, 100]
abbrev dktX3_closes_0 : List UInt8 := dkwX3_closes_0 ++ dktX3_closes_1
theorem dksX3_closes_0 : cX3_closes.data.toList.drop 0 = dktX3_closes_0 := by decide +kernel
theorem dksX3_closes_1 : cX3_closes.data.toList.drop 22 = dktX3_closes_1 := dk_seg dksX3_closes_0 22 rfl rfl
theorem dX3_closes_0 : decode cX3_closes 0 = .ok (.aload_n 0, 1) := dk_42 (dk_at dksX3_closes_0 0 rfl rfl)
theorem dX3_closes_1 : decode cX3_closes 1 = .ok (.iconst 0, 1) := dk_3 (dk_at dksX3_closes_0 1 rfl rfl)
theorem dX3_closes_2 : decode cX3_closes 2 = .ok (.invokevirtual 256, 3) := dk_182 1 0 (dk_at dksX3_closes_0 2 rfl rfl)
theorem dX3_closes_5 : decode cX3_closes 5 = .ok (.aload_n 0, 1) := dk_42 (dk_at dksX3_closes_0 5 rfl rfl)
theorem dX3_closes_6 : decode cX3_closes 6 = .ok (.dup, 1) := dk_89 (dk_at dksX3_closes_0 6 rfl rfl)
theorem dX3_closes_7 : decode cX3_closes 7 = .ok (.getfield 226, 3) := dk_180 0 226 (dk_at dksX3_closes_0 7 rfl rfl)
theorem dX3_closes_10 : decode cX3_closes 10 = .ok (.iconst 1, 1) := dk_4 (dk_at dksX3_closes_0 10 rfl rfl)
theorem dX3_closes_11 : decode cX3_closes 11 = .ok (.isub, 1) := dk_100 (dk_at dksX3_closes_0 11 rfl rfl)
theorem dX3_closes_12 : decode cX3_closes 12 = .ok (.putfield 226, 3) := dk_181 0 226 (dk_at dksX3_closes_0 12 rfl rfl)
theorem dX3_closes_15 : decode cX3_closes 15 = .ok (.aload_n 0, 1) := dk_42 (dk_at dksX3_closes_0 15 rfl rfl)
theorem dX3_closes_16 : decode cX3_closes 16 = .ok (.dup, 1) := dk_89 (dk_at dksX3_closes_0 16 rfl rfl)
theorem dX3_closes_17 : decode cX3_closes 17 = .ok (.getfield 241, 3) := dk_180 0 241 (dk_at dksX3_closes_0 17 rfl rfl)
theorem dX3_closes_20 : decode cX3_closes 20 = .ok (.iconst 1, 1) := dk_4 (dk_at dksX3_closes_0 20 rfl rfl)
theorem dX3_closes_21 : decode cX3_closes 21 = .ok (.isub, 1) := dk_100 (dk_at dksX3_closes_0 21 rfl rfl)
theorem dX3_closes_22 : decode cX3_closes 22 = .ok (.putfield 241, 3) := dk_181 0 241 (dk_at dksX3_closes_1 0 rfl rfl)
theorem dX3_closes_25 : decode cX3_closes 25 = .ok (.aload_n 0, 1) := dk_42 (dk_at dksX3_closes_1 3 rfl rfl)
theorem dX3_closes_26 : decode cX3_closes 26 = .ok (.invokevirtual 210, 3) := dk_182 0 210 (dk_at dksX3_closes_1 4 rfl rfl)
theorem dX3_closes_29 : decode cX3_closes 29 = .ok (.return_, 1) := dk_177 (dk_at dksX3_closes_1 7 rfl rfl)
abbrev cX3_need : ByteArray := prog_14_method_20_code
def yX3_need : MethodName := ⟨RX3, "need", "(Z)V"⟩
def dkwX3_need_1 : List UInt8 := [177]
abbrev dktX3_need_1 : List UInt8 := dkwX3_need_1 ++ []
def dkwX3_need_0 : List UInt8 := [42, 182, 0, 206, 154, 0, 4, 177, 27, 153, 0, 10, 42, 182, 0, 210, 167, 0, 8, 42, 4, 182, 0, 213]
abbrev dktX3_need_0 : List UInt8 := dkwX3_need_0 ++ dktX3_need_1
theorem dksX3_need_0 : cX3_need.data.toList.drop 0 = dktX3_need_0 := by decide +kernel
theorem dksX3_need_1 : cX3_need.data.toList.drop 24 = dktX3_need_1 := dk_seg dksX3_need_0 24 rfl rfl
theorem dX3_need_0 : decode cX3_need 0 = .ok (.aload_n 0, 1) := dk_42 (dk_at dksX3_need_0 0 rfl rfl)
theorem dX3_need_1 : decode cX3_need 1 = .ok (.invokevirtual 206, 3) := dk_182 0 206 (dk_at dksX3_need_0 1 rfl rfl)
theorem dX3_need_4 : decode cX3_need 4 = .ok (.ifCond .ne 4, 3) := dk_154 0 4 (dk_at dksX3_need_0 4 rfl rfl)
theorem dX3_need_7 : decode cX3_need 7 = .ok (.return_, 1) := dk_177 (dk_at dksX3_need_0 7 rfl rfl)
theorem dX3_need_8 : decode cX3_need 8 = .ok (.iload_n 1, 1) := dk_27 (dk_at dksX3_need_0 8 rfl rfl)
theorem dX3_need_9 : decode cX3_need 9 = .ok (.ifCond .eq 10, 3) := dk_153 0 10 (dk_at dksX3_need_0 9 rfl rfl)
theorem dX3_need_12 : decode cX3_need 12 = .ok (.aload_n 0, 1) := dk_42 (dk_at dksX3_need_0 12 rfl rfl)
theorem dX3_need_13 : decode cX3_need 13 = .ok (.invokevirtual 210, 3) := dk_182 0 210 (dk_at dksX3_need_0 13 rfl rfl)
theorem dX3_need_16 : decode cX3_need 16 = .ok (.goto 8, 3) := dk_167 0 8 (dk_at dksX3_need_0 16 rfl rfl)
theorem dX3_need_19 : decode cX3_need 19 = .ok (.aload_n 0, 1) := dk_42 (dk_at dksX3_need_0 19 rfl rfl)
theorem dX3_need_20 : decode cX3_need 20 = .ok (.iconst 1, 1) := dk_4 (dk_at dksX3_need_0 20 rfl rfl)
theorem dX3_need_21 : decode cX3_need 21 = .ok (.invokevirtual 213, 3) := dk_182 0 213 (dk_at dksX3_need_0 21 rfl rfl)
theorem dX3_need_24 : decode cX3_need 24 = .ok (.return_, 1) := dk_177 (dk_at dksX3_need_1 0 rfl rfl)
abbrev cX3_copies : ByteArray := prog_14_method_6_code
def yX3_copies : MethodName := ⟨RX3, "copies", "([I[I)V"⟩
def dkwX3_copies_0 : List UInt8 := [3, 62, 29, 43, 190, 162, 0, 15, 44, 29, 43, 29, 46, 79, 132, 3, 1, 167, 255, 241, 177]
abbrev dktX3_copies_0 : List UInt8 := dkwX3_copies_0 ++ []
theorem dksX3_copies_0 : cX3_copies.data.toList.drop 0 = dktX3_copies_0 := by decide +kernel
theorem dX3_copies_0 : decode cX3_copies 0 = .ok (.iconst 0, 1) := dk_3 (dk_at dksX3_copies_0 0 rfl rfl)
theorem dX3_copies_1 : decode cX3_copies 1 = .ok (.istore_n 3, 1) := dk_62 (dk_at dksX3_copies_0 1 rfl rfl)
theorem dX3_copies_2 : decode cX3_copies 2 = .ok (.iload_n 3, 1) := dk_29 (dk_at dksX3_copies_0 2 rfl rfl)
theorem dX3_copies_3 : decode cX3_copies 3 = .ok (.aload_n 1, 1) := dk_43 (dk_at dksX3_copies_0 3 rfl rfl)
theorem dX3_copies_4 : decode cX3_copies 4 = .ok (.arraylength, 1) := dk_190 (dk_at dksX3_copies_0 4 rfl rfl)
theorem dX3_copies_5 : decode cX3_copies 5 = .ok (.if_icmp .ge 15, 3) := dk_162 0 15 (dk_at dksX3_copies_0 5 rfl rfl)
theorem dX3_copies_8 : decode cX3_copies 8 = .ok (.aload_n 2, 1) := dk_44 (dk_at dksX3_copies_0 8 rfl rfl)
theorem dX3_copies_9 : decode cX3_copies 9 = .ok (.iload_n 3, 1) := dk_29 (dk_at dksX3_copies_0 9 rfl rfl)
theorem dX3_copies_10 : decode cX3_copies 10 = .ok (.aload_n 1, 1) := dk_43 (dk_at dksX3_copies_0 10 rfl rfl)
theorem dX3_copies_11 : decode cX3_copies 11 = .ok (.iload_n 3, 1) := dk_29 (dk_at dksX3_copies_0 11 rfl rfl)
theorem dX3_copies_12 : decode cX3_copies 12 = .ok (.iaload, 1) := dk_46 (dk_at dksX3_copies_0 12 rfl rfl)
theorem dX3_copies_13 : decode cX3_copies 13 = .ok (.iastore, 1) := dk_79 (dk_at dksX3_copies_0 13 rfl rfl)
theorem dX3_copies_14 : decode cX3_copies 14 = .ok (.iinc 3 1, 3) := dk_132 3 1 (dk_at dksX3_copies_0 14 rfl rfl)
theorem dX3_copies_17 : decode cX3_copies 17 = .ok (.goto (-15), 3) := dk_167 255 241 (dk_at dksX3_copies_0 17 rfl rfl)
theorem dX3_copies_20 : decode cX3_copies 20 = .ok (.return_, 1) := dk_177 (dk_at dksX3_copies_0 20 rfl rfl)
abbrev cX3_measures : ByteArray := prog_14_method_44_code
def yX3_measures : MethodName := ⟨RX3, "measures", "()V"⟩
def dkwX3_measures_7 : List UInt8 := [167, 255, 158, 132, 1, 1, 167, 255, 142, 177]
abbrev dktX3_measures_7 : List UInt8 := dkwX3_measures_7 ++ []
def dkwX3_measures_6 : List UInt8 := [42, 180, 0, 87, 16, 10, 27, 104, 29, 96, 46, 96, 79, 132, 3, 1, 167, 255, 174, 132, 2, 1]
abbrev dktX3_measures_6 : List UInt8 := dkwX3_measures_6 ++ dktX3_measures_7
def dkwX3_measures_5 : List UInt8 := [162, 0, 37, 42, 180, 0, 87, 16, 10, 28, 104, 29, 96, 42, 180, 0, 87, 16, 10, 28, 104, 27, 96, 46]
abbrev dktX3_measures_5 : List UInt8 := dkwX3_measures_5 ++ dktX3_measures_6
def dkwX3_measures_4 : List UInt8 := [42, 180, 0, 87, 16, 10, 27, 104, 29, 96, 46, 96, 42, 180, 0, 87, 16, 10, 28, 104, 29, 96, 46]
abbrev dktX3_measures_4 : List UInt8 := dkwX3_measures_4 ++ dktX3_measures_5
def dkwX3_measures_3 : List UInt8 := [162, 0, 96, 3, 62, 29, 42, 180, 1, 57, 162, 0, 80, 42, 180, 0, 87, 16, 10, 28, 104, 27, 96, 46]
abbrev dktX3_measures_3 : List UInt8 := dkwX3_measures_3 ++ dktX3_measures_4
def dkwX3_measures_2 : List UInt8 := [132, 1, 1, 167, 255, 209, 3, 60, 27, 42, 180, 1, 57, 162, 0, 112, 3, 61, 28, 42, 180, 1, 57]
abbrev dktX3_measures_2 : List UInt8 := dkwX3_measures_2 ++ dktX3_measures_3
def dkwX3_measures_1 : List UInt8 := [42, 180, 0, 13, 27, 46, 158, 0, 12, 42, 180, 0, 13, 27, 46, 167, 0, 6, 19, 1, 92, 79]
abbrev dktX3_measures_1 : List UInt8 := dkwX3_measures_1 ++ dktX3_measures_2
def dkwX3_measures_0 : List UInt8 := [3, 60, 27, 16, 100, 162, 0, 47, 42, 180, 0, 87, 27, 27, 16, 11, 112, 154, 0, 7, 3, 167, 0, 24]
abbrev dktX3_measures_0 : List UInt8 := dkwX3_measures_0 ++ dktX3_measures_1
theorem dksX3_measures_0 : cX3_measures.data.toList.drop 0 = dktX3_measures_0 := by decide +kernel
theorem dksX3_measures_1 : cX3_measures.data.toList.drop 24 = dktX3_measures_1 := dk_seg dksX3_measures_0 24 rfl rfl
theorem dksX3_measures_2 : cX3_measures.data.toList.drop 46 = dktX3_measures_2 := dk_seg dksX3_measures_1 22 rfl rfl
theorem dksX3_measures_3 : cX3_measures.data.toList.drop 69 = dktX3_measures_3 := dk_seg dksX3_measures_2 23 rfl rfl
theorem dksX3_measures_4 : cX3_measures.data.toList.drop 93 = dktX3_measures_4 := dk_seg dksX3_measures_3 24 rfl rfl
theorem dksX3_measures_5 : cX3_measures.data.toList.drop 116 = dktX3_measures_5 := dk_seg dksX3_measures_4 23 rfl rfl
theorem dksX3_measures_6 : cX3_measures.data.toList.drop 140 = dktX3_measures_6 := dk_seg dksX3_measures_5 24 rfl rfl
theorem dksX3_measures_7 : cX3_measures.data.toList.drop 162 = dktX3_measures_7 := dk_seg dksX3_measures_6 22 rfl rfl
theorem dX3_measures_0 : decode cX3_measures 0 = .ok (.iconst 0, 1) := dk_3 (dk_at dksX3_measures_0 0 rfl rfl)
theorem dX3_measures_1 : decode cX3_measures 1 = .ok (.istore_n 1, 1) := dk_60 (dk_at dksX3_measures_0 1 rfl rfl)
theorem dX3_measures_2 : decode cX3_measures 2 = .ok (.iload_n 1, 1) := dk_27 (dk_at dksX3_measures_0 2 rfl rfl)
theorem dX3_measures_3 : decode cX3_measures 3 = .ok (.bipush 100, 2) := dk_16 100 (dk_at dksX3_measures_0 3 rfl rfl)
theorem dX3_measures_5 : decode cX3_measures 5 = .ok (.if_icmp .ge 47, 3) := dk_162 0 47 (dk_at dksX3_measures_0 5 rfl rfl)
theorem dX3_measures_8 : decode cX3_measures 8 = .ok (.aload_n 0, 1) := dk_42 (dk_at dksX3_measures_0 8 rfl rfl)
theorem dX3_measures_9 : decode cX3_measures 9 = .ok (.getfield 87, 3) := dk_180 0 87 (dk_at dksX3_measures_0 9 rfl rfl)
theorem dX3_measures_12 : decode cX3_measures 12 = .ok (.iload_n 1, 1) := dk_27 (dk_at dksX3_measures_0 12 rfl rfl)
theorem dX3_measures_13 : decode cX3_measures 13 = .ok (.iload_n 1, 1) := dk_27 (dk_at dksX3_measures_0 13 rfl rfl)
theorem dX3_measures_14 : decode cX3_measures 14 = .ok (.bipush 11, 2) := dk_16 11 (dk_at dksX3_measures_0 14 rfl rfl)
theorem dX3_measures_16 : decode cX3_measures 16 = .ok (.irem, 1) := dk_112 (dk_at dksX3_measures_0 16 rfl rfl)
theorem dX3_measures_17 : decode cX3_measures 17 = .ok (.ifCond .ne 7, 3) := dk_154 0 7 (dk_at dksX3_measures_0 17 rfl rfl)
theorem dX3_measures_20 : decode cX3_measures 20 = .ok (.iconst 0, 1) := dk_3 (dk_at dksX3_measures_0 20 rfl rfl)
theorem dX3_measures_21 : decode cX3_measures 21 = .ok (.goto 24, 3) := dk_167 0 24 (dk_at dksX3_measures_0 21 rfl rfl)
theorem dX3_measures_24 : decode cX3_measures 24 = .ok (.aload_n 0, 1) := dk_42 (dk_at dksX3_measures_1 0 rfl rfl)
theorem dX3_measures_25 : decode cX3_measures 25 = .ok (.getfield 13, 3) := dk_180 0 13 (dk_at dksX3_measures_1 1 rfl rfl)
theorem dX3_measures_28 : decode cX3_measures 28 = .ok (.iload_n 1, 1) := dk_27 (dk_at dksX3_measures_1 4 rfl rfl)
theorem dX3_measures_29 : decode cX3_measures 29 = .ok (.iaload, 1) := dk_46 (dk_at dksX3_measures_1 5 rfl rfl)
theorem dX3_measures_30 : decode cX3_measures 30 = .ok (.ifCond .le 12, 3) := dk_158 0 12 (dk_at dksX3_measures_1 6 rfl rfl)
theorem dX3_measures_33 : decode cX3_measures 33 = .ok (.aload_n 0, 1) := dk_42 (dk_at dksX3_measures_1 9 rfl rfl)
theorem dX3_measures_34 : decode cX3_measures 34 = .ok (.getfield 13, 3) := dk_180 0 13 (dk_at dksX3_measures_1 10 rfl rfl)
theorem dX3_measures_37 : decode cX3_measures 37 = .ok (.iload_n 1, 1) := dk_27 (dk_at dksX3_measures_1 13 rfl rfl)
theorem dX3_measures_38 : decode cX3_measures 38 = .ok (.iaload, 1) := dk_46 (dk_at dksX3_measures_1 14 rfl rfl)
theorem dX3_measures_39 : decode cX3_measures 39 = .ok (.goto 6, 3) := dk_167 0 6 (dk_at dksX3_measures_1 15 rfl rfl)
theorem dX3_measures_42 : decode cX3_measures 42 = .ok (.ldc_w 348, 3) := dk_19 1 92 (dk_at dksX3_measures_1 18 rfl rfl)
theorem dX3_measures_45 : decode cX3_measures 45 = .ok (.iastore, 1) := dk_79 (dk_at dksX3_measures_1 21 rfl rfl)
theorem dX3_measures_46 : decode cX3_measures 46 = .ok (.iinc 1 1, 3) := dk_132 1 1 (dk_at dksX3_measures_2 0 rfl rfl)
theorem dX3_measures_49 : decode cX3_measures 49 = .ok (.goto (-47), 3) := dk_167 255 209 (dk_at dksX3_measures_2 3 rfl rfl)
theorem dX3_measures_52 : decode cX3_measures 52 = .ok (.iconst 0, 1) := dk_3 (dk_at dksX3_measures_2 6 rfl rfl)
theorem dX3_measures_53 : decode cX3_measures 53 = .ok (.istore_n 1, 1) := dk_60 (dk_at dksX3_measures_2 7 rfl rfl)
theorem dX3_measures_54 : decode cX3_measures 54 = .ok (.iload_n 1, 1) := dk_27 (dk_at dksX3_measures_2 8 rfl rfl)
theorem dX3_measures_55 : decode cX3_measures 55 = .ok (.aload_n 0, 1) := dk_42 (dk_at dksX3_measures_2 9 rfl rfl)
theorem dX3_measures_56 : decode cX3_measures 56 = .ok (.getfield 313, 3) := dk_180 1 57 (dk_at dksX3_measures_2 10 rfl rfl)
theorem dX3_measures_59 : decode cX3_measures 59 = .ok (.if_icmp .ge 112, 3) := dk_162 0 112 (dk_at dksX3_measures_2 13 rfl rfl)
theorem dX3_measures_62 : decode cX3_measures 62 = .ok (.iconst 0, 1) := dk_3 (dk_at dksX3_measures_2 16 rfl rfl)
theorem dX3_measures_63 : decode cX3_measures 63 = .ok (.istore_n 2, 1) := dk_61 (dk_at dksX3_measures_2 17 rfl rfl)
theorem dX3_measures_64 : decode cX3_measures 64 = .ok (.iload_n 2, 1) := dk_28 (dk_at dksX3_measures_2 18 rfl rfl)
theorem dX3_measures_65 : decode cX3_measures 65 = .ok (.aload_n 0, 1) := dk_42 (dk_at dksX3_measures_2 19 rfl rfl)
theorem dX3_measures_66 : decode cX3_measures 66 = .ok (.getfield 313, 3) := dk_180 1 57 (dk_at dksX3_measures_2 20 rfl rfl)
theorem dX3_measures_69 : decode cX3_measures 69 = .ok (.if_icmp .ge 96, 3) := dk_162 0 96 (dk_at dksX3_measures_3 0 rfl rfl)
theorem dX3_measures_72 : decode cX3_measures 72 = .ok (.iconst 0, 1) := dk_3 (dk_at dksX3_measures_3 3 rfl rfl)
theorem dX3_measures_73 : decode cX3_measures 73 = .ok (.istore_n 3, 1) := dk_62 (dk_at dksX3_measures_3 4 rfl rfl)
theorem dX3_measures_74 : decode cX3_measures 74 = .ok (.iload_n 3, 1) := dk_29 (dk_at dksX3_measures_3 5 rfl rfl)
theorem dX3_measures_75 : decode cX3_measures 75 = .ok (.aload_n 0, 1) := dk_42 (dk_at dksX3_measures_3 6 rfl rfl)
theorem dX3_measures_76 : decode cX3_measures 76 = .ok (.getfield 313, 3) := dk_180 1 57 (dk_at dksX3_measures_3 7 rfl rfl)
theorem dX3_measures_79 : decode cX3_measures 79 = .ok (.if_icmp .ge 80, 3) := dk_162 0 80 (dk_at dksX3_measures_3 10 rfl rfl)
theorem dX3_measures_82 : decode cX3_measures 82 = .ok (.aload_n 0, 1) := dk_42 (dk_at dksX3_measures_3 13 rfl rfl)
theorem dX3_measures_83 : decode cX3_measures 83 = .ok (.getfield 87, 3) := dk_180 0 87 (dk_at dksX3_measures_3 14 rfl rfl)
theorem dX3_measures_86 : decode cX3_measures 86 = .ok (.bipush 10, 2) := dk_16 10 (dk_at dksX3_measures_3 17 rfl rfl)
theorem dX3_measures_88 : decode cX3_measures 88 = .ok (.iload_n 2, 1) := dk_28 (dk_at dksX3_measures_3 19 rfl rfl)
theorem dX3_measures_89 : decode cX3_measures 89 = .ok (.imul, 1) := dk_104 (dk_at dksX3_measures_3 20 rfl rfl)
theorem dX3_measures_90 : decode cX3_measures 90 = .ok (.iload_n 1, 1) := dk_27 (dk_at dksX3_measures_3 21 rfl rfl)
theorem dX3_measures_91 : decode cX3_measures 91 = .ok (.iadd, 1) := dk_96 (dk_at dksX3_measures_3 22 rfl rfl)
theorem dX3_measures_92 : decode cX3_measures 92 = .ok (.iaload, 1) := dk_46 (dk_at dksX3_measures_3 23 rfl rfl)
theorem dX3_measures_93 : decode cX3_measures 93 = .ok (.aload_n 0, 1) := dk_42 (dk_at dksX3_measures_4 0 rfl rfl)
theorem dX3_measures_94 : decode cX3_measures 94 = .ok (.getfield 87, 3) := dk_180 0 87 (dk_at dksX3_measures_4 1 rfl rfl)
theorem dX3_measures_97 : decode cX3_measures 97 = .ok (.bipush 10, 2) := dk_16 10 (dk_at dksX3_measures_4 4 rfl rfl)
theorem dX3_measures_99 : decode cX3_measures 99 = .ok (.iload_n 1, 1) := dk_27 (dk_at dksX3_measures_4 6 rfl rfl)
theorem dX3_measures_100 : decode cX3_measures 100 = .ok (.imul, 1) := dk_104 (dk_at dksX3_measures_4 7 rfl rfl)
theorem dX3_measures_101 : decode cX3_measures 101 = .ok (.iload_n 3, 1) := dk_29 (dk_at dksX3_measures_4 8 rfl rfl)
theorem dX3_measures_102 : decode cX3_measures 102 = .ok (.iadd, 1) := dk_96 (dk_at dksX3_measures_4 9 rfl rfl)
theorem dX3_measures_103 : decode cX3_measures 103 = .ok (.iaload, 1) := dk_46 (dk_at dksX3_measures_4 10 rfl rfl)
theorem dX3_measures_104 : decode cX3_measures 104 = .ok (.iadd, 1) := dk_96 (dk_at dksX3_measures_4 11 rfl rfl)
theorem dX3_measures_105 : decode cX3_measures 105 = .ok (.aload_n 0, 1) := dk_42 (dk_at dksX3_measures_4 12 rfl rfl)
theorem dX3_measures_106 : decode cX3_measures 106 = .ok (.getfield 87, 3) := dk_180 0 87 (dk_at dksX3_measures_4 13 rfl rfl)
theorem dX3_measures_109 : decode cX3_measures 109 = .ok (.bipush 10, 2) := dk_16 10 (dk_at dksX3_measures_4 16 rfl rfl)
theorem dX3_measures_111 : decode cX3_measures 111 = .ok (.iload_n 2, 1) := dk_28 (dk_at dksX3_measures_4 18 rfl rfl)
theorem dX3_measures_112 : decode cX3_measures 112 = .ok (.imul, 1) := dk_104 (dk_at dksX3_measures_4 19 rfl rfl)
theorem dX3_measures_113 : decode cX3_measures 113 = .ok (.iload_n 3, 1) := dk_29 (dk_at dksX3_measures_4 20 rfl rfl)
theorem dX3_measures_114 : decode cX3_measures 114 = .ok (.iadd, 1) := dk_96 (dk_at dksX3_measures_4 21 rfl rfl)
theorem dX3_measures_115 : decode cX3_measures 115 = .ok (.iaload, 1) := dk_46 (dk_at dksX3_measures_4 22 rfl rfl)
theorem dX3_measures_116 : decode cX3_measures 116 = .ok (.if_icmp .ge 37, 3) := dk_162 0 37 (dk_at dksX3_measures_5 0 rfl rfl)
theorem dX3_measures_119 : decode cX3_measures 119 = .ok (.aload_n 0, 1) := dk_42 (dk_at dksX3_measures_5 3 rfl rfl)
theorem dX3_measures_120 : decode cX3_measures 120 = .ok (.getfield 87, 3) := dk_180 0 87 (dk_at dksX3_measures_5 4 rfl rfl)
theorem dX3_measures_123 : decode cX3_measures 123 = .ok (.bipush 10, 2) := dk_16 10 (dk_at dksX3_measures_5 7 rfl rfl)
theorem dX3_measures_125 : decode cX3_measures 125 = .ok (.iload_n 2, 1) := dk_28 (dk_at dksX3_measures_5 9 rfl rfl)
theorem dX3_measures_126 : decode cX3_measures 126 = .ok (.imul, 1) := dk_104 (dk_at dksX3_measures_5 10 rfl rfl)
theorem dX3_measures_127 : decode cX3_measures 127 = .ok (.iload_n 3, 1) := dk_29 (dk_at dksX3_measures_5 11 rfl rfl)
theorem dX3_measures_128 : decode cX3_measures 128 = .ok (.iadd, 1) := dk_96 (dk_at dksX3_measures_5 12 rfl rfl)
theorem dX3_measures_129 : decode cX3_measures 129 = .ok (.aload_n 0, 1) := dk_42 (dk_at dksX3_measures_5 13 rfl rfl)
theorem dX3_measures_130 : decode cX3_measures 130 = .ok (.getfield 87, 3) := dk_180 0 87 (dk_at dksX3_measures_5 14 rfl rfl)
theorem dX3_measures_133 : decode cX3_measures 133 = .ok (.bipush 10, 2) := dk_16 10 (dk_at dksX3_measures_5 17 rfl rfl)
theorem dX3_measures_135 : decode cX3_measures 135 = .ok (.iload_n 2, 1) := dk_28 (dk_at dksX3_measures_5 19 rfl rfl)
theorem dX3_measures_136 : decode cX3_measures 136 = .ok (.imul, 1) := dk_104 (dk_at dksX3_measures_5 20 rfl rfl)
theorem dX3_measures_137 : decode cX3_measures 137 = .ok (.iload_n 1, 1) := dk_27 (dk_at dksX3_measures_5 21 rfl rfl)
theorem dX3_measures_138 : decode cX3_measures 138 = .ok (.iadd, 1) := dk_96 (dk_at dksX3_measures_5 22 rfl rfl)
theorem dX3_measures_139 : decode cX3_measures 139 = .ok (.iaload, 1) := dk_46 (dk_at dksX3_measures_5 23 rfl rfl)
theorem dX3_measures_140 : decode cX3_measures 140 = .ok (.aload_n 0, 1) := dk_42 (dk_at dksX3_measures_6 0 rfl rfl)
theorem dX3_measures_141 : decode cX3_measures 141 = .ok (.getfield 87, 3) := dk_180 0 87 (dk_at dksX3_measures_6 1 rfl rfl)
theorem dX3_measures_144 : decode cX3_measures 144 = .ok (.bipush 10, 2) := dk_16 10 (dk_at dksX3_measures_6 4 rfl rfl)
theorem dX3_measures_146 : decode cX3_measures 146 = .ok (.iload_n 1, 1) := dk_27 (dk_at dksX3_measures_6 6 rfl rfl)
theorem dX3_measures_147 : decode cX3_measures 147 = .ok (.imul, 1) := dk_104 (dk_at dksX3_measures_6 7 rfl rfl)
theorem dX3_measures_148 : decode cX3_measures 148 = .ok (.iload_n 3, 1) := dk_29 (dk_at dksX3_measures_6 8 rfl rfl)
theorem dX3_measures_149 : decode cX3_measures 149 = .ok (.iadd, 1) := dk_96 (dk_at dksX3_measures_6 9 rfl rfl)
theorem dX3_measures_150 : decode cX3_measures 150 = .ok (.iaload, 1) := dk_46 (dk_at dksX3_measures_6 10 rfl rfl)
theorem dX3_measures_151 : decode cX3_measures 151 = .ok (.iadd, 1) := dk_96 (dk_at dksX3_measures_6 11 rfl rfl)
theorem dX3_measures_152 : decode cX3_measures 152 = .ok (.iastore, 1) := dk_79 (dk_at dksX3_measures_6 12 rfl rfl)
theorem dX3_measures_153 : decode cX3_measures 153 = .ok (.iinc 3 1, 3) := dk_132 3 1 (dk_at dksX3_measures_6 13 rfl rfl)
theorem dX3_measures_156 : decode cX3_measures 156 = .ok (.goto (-82), 3) := dk_167 255 174 (dk_at dksX3_measures_6 16 rfl rfl)
theorem dX3_measures_159 : decode cX3_measures 159 = .ok (.iinc 2 1, 3) := dk_132 2 1 (dk_at dksX3_measures_6 19 rfl rfl)
theorem dX3_measures_162 : decode cX3_measures 162 = .ok (.goto (-98), 3) := dk_167 255 158 (dk_at dksX3_measures_7 0 rfl rfl)
theorem dX3_measures_165 : decode cX3_measures 165 = .ok (.iinc 1 1, 3) := dk_132 1 1 (dk_at dksX3_measures_7 3 rfl rfl)
theorem dX3_measures_168 : decode cX3_measures 168 = .ok (.goto (-114), 3) := dk_167 255 142 (dk_at dksX3_measures_7 6 rfl rfl)
theorem dX3_measures_171 : decode cX3_measures 171 = .ok (.return_, 1) := dk_177 (dk_at dksX3_measures_7 9 rfl rfl)
abbrev cX3_fault : ByteArray := prog_14_method_40_code
def yX3_fault : MethodName := ⟨RX3, "fault", "()I"⟩
def dkwX3_fault_0 : List UInt8 := [42, 3, 181, 0, 147, 42, 180, 0, 38, 172]
abbrev dktX3_fault_0 : List UInt8 := dkwX3_fault_0 ++ []
theorem dksX3_fault_0 : cX3_fault.data.toList.drop 0 = dktX3_fault_0 := by decide +kernel
theorem dX3_fault_0 : decode cX3_fault 0 = .ok (.aload_n 0, 1) := dk_42 (dk_at dksX3_fault_0 0 rfl rfl)
theorem dX3_fault_1 : decode cX3_fault 1 = .ok (.iconst 0, 1) := dk_3 (dk_at dksX3_fault_0 1 rfl rfl)
theorem dX3_fault_2 : decode cX3_fault 2 = .ok (.putfield 147, 3) := dk_181 0 147 (dk_at dksX3_fault_0 2 rfl rfl)
theorem dX3_fault_5 : decode cX3_fault 5 = .ok (.aload_n 0, 1) := dk_42 (dk_at dksX3_fault_0 5 rfl rfl)
theorem dX3_fault_6 : decode cX3_fault 6 = .ok (.getfield 38, 3) := dk_180 0 38 (dk_at dksX3_fault_0 6 rfl rfl)
theorem dX3_fault_9 : decode cX3_fault 9 = .ok (.ireturn, 1) := dk_172 (dk_at dksX3_fault_0 9 rfl rfl)
abbrev cX3_undo : ByteArray := prog_14_method_43_code
def yX3_undo : MethodName := ⟨RX3, "undo", "()I"⟩
def dkwX3_undo_2 : List UInt8 := [104, 4, 96, 46, 79, 42, 180, 1, 79, 172]
abbrev dktX3_undo_2 : List UInt8 := dkwX3_undo_2 ++ []
def dkwX3_undo_1 : List UInt8 := [42, 180, 0, 78, 42, 180, 0, 84, 5, 42, 180, 1, 79, 104, 46, 42, 180, 0, 84, 5, 42, 180, 1, 79]
abbrev dktX3_undo_1 : List UInt8 := dkwX3_undo_1 ++ dktX3_undo_2
def dkwX3_undo_0 : List UInt8 := [42, 3, 181, 0, 147, 42, 180, 1, 79, 154, 0, 5, 2, 172, 42, 89, 180, 1, 79, 4, 100, 181, 1, 79]
abbrev dktX3_undo_0 : List UInt8 := dkwX3_undo_0 ++ dktX3_undo_1
theorem dksX3_undo_0 : cX3_undo.data.toList.drop 0 = dktX3_undo_0 := by decide +kernel
theorem dksX3_undo_1 : cX3_undo.data.toList.drop 24 = dktX3_undo_1 := dk_seg dksX3_undo_0 24 rfl rfl
theorem dksX3_undo_2 : cX3_undo.data.toList.drop 48 = dktX3_undo_2 := dk_seg dksX3_undo_1 24 rfl rfl
theorem dX3_undo_0 : decode cX3_undo 0 = .ok (.aload_n 0, 1) := dk_42 (dk_at dksX3_undo_0 0 rfl rfl)
theorem dX3_undo_1 : decode cX3_undo 1 = .ok (.iconst 0, 1) := dk_3 (dk_at dksX3_undo_0 1 rfl rfl)
theorem dX3_undo_2 : decode cX3_undo 2 = .ok (.putfield 147, 3) := dk_181 0 147 (dk_at dksX3_undo_0 2 rfl rfl)
theorem dX3_undo_5 : decode cX3_undo 5 = .ok (.aload_n 0, 1) := dk_42 (dk_at dksX3_undo_0 5 rfl rfl)
theorem dX3_undo_6 : decode cX3_undo 6 = .ok (.getfield 335, 3) := dk_180 1 79 (dk_at dksX3_undo_0 6 rfl rfl)
theorem dX3_undo_9 : decode cX3_undo 9 = .ok (.ifCond .ne 5, 3) := dk_154 0 5 (dk_at dksX3_undo_0 9 rfl rfl)
theorem dX3_undo_12 : decode cX3_undo 12 = .ok (.iconst (-1), 1) := dk_2 (dk_at dksX3_undo_0 12 rfl rfl)
theorem dX3_undo_13 : decode cX3_undo 13 = .ok (.ireturn, 1) := dk_172 (dk_at dksX3_undo_0 13 rfl rfl)
theorem dX3_undo_14 : decode cX3_undo 14 = .ok (.aload_n 0, 1) := dk_42 (dk_at dksX3_undo_0 14 rfl rfl)
theorem dX3_undo_15 : decode cX3_undo 15 = .ok (.dup, 1) := dk_89 (dk_at dksX3_undo_0 15 rfl rfl)
theorem dX3_undo_16 : decode cX3_undo 16 = .ok (.getfield 335, 3) := dk_180 1 79 (dk_at dksX3_undo_0 16 rfl rfl)
theorem dX3_undo_19 : decode cX3_undo 19 = .ok (.iconst 1, 1) := dk_4 (dk_at dksX3_undo_0 19 rfl rfl)
theorem dX3_undo_20 : decode cX3_undo 20 = .ok (.isub, 1) := dk_100 (dk_at dksX3_undo_0 20 rfl rfl)
theorem dX3_undo_21 : decode cX3_undo 21 = .ok (.putfield 335, 3) := dk_181 1 79 (dk_at dksX3_undo_0 21 rfl rfl)
theorem dX3_undo_24 : decode cX3_undo 24 = .ok (.aload_n 0, 1) := dk_42 (dk_at dksX3_undo_1 0 rfl rfl)
theorem dX3_undo_25 : decode cX3_undo 25 = .ok (.getfield 78, 3) := dk_180 0 78 (dk_at dksX3_undo_1 1 rfl rfl)
theorem dX3_undo_28 : decode cX3_undo 28 = .ok (.aload_n 0, 1) := dk_42 (dk_at dksX3_undo_1 4 rfl rfl)
theorem dX3_undo_29 : decode cX3_undo 29 = .ok (.getfield 84, 3) := dk_180 0 84 (dk_at dksX3_undo_1 5 rfl rfl)
theorem dX3_undo_32 : decode cX3_undo 32 = .ok (.iconst 2, 1) := dk_5 (dk_at dksX3_undo_1 8 rfl rfl)
theorem dX3_undo_33 : decode cX3_undo 33 = .ok (.aload_n 0, 1) := dk_42 (dk_at dksX3_undo_1 9 rfl rfl)
theorem dX3_undo_34 : decode cX3_undo 34 = .ok (.getfield 335, 3) := dk_180 1 79 (dk_at dksX3_undo_1 10 rfl rfl)
theorem dX3_undo_37 : decode cX3_undo 37 = .ok (.imul, 1) := dk_104 (dk_at dksX3_undo_1 13 rfl rfl)
theorem dX3_undo_38 : decode cX3_undo 38 = .ok (.iaload, 1) := dk_46 (dk_at dksX3_undo_1 14 rfl rfl)
theorem dX3_undo_39 : decode cX3_undo 39 = .ok (.aload_n 0, 1) := dk_42 (dk_at dksX3_undo_1 15 rfl rfl)
theorem dX3_undo_40 : decode cX3_undo 40 = .ok (.getfield 84, 3) := dk_180 0 84 (dk_at dksX3_undo_1 16 rfl rfl)
theorem dX3_undo_43 : decode cX3_undo 43 = .ok (.iconst 2, 1) := dk_5 (dk_at dksX3_undo_1 19 rfl rfl)
theorem dX3_undo_44 : decode cX3_undo 44 = .ok (.aload_n 0, 1) := dk_42 (dk_at dksX3_undo_1 20 rfl rfl)
theorem dX3_undo_45 : decode cX3_undo 45 = .ok (.getfield 335, 3) := dk_180 1 79 (dk_at dksX3_undo_1 21 rfl rfl)
theorem dX3_undo_48 : decode cX3_undo 48 = .ok (.imul, 1) := dk_104 (dk_at dksX3_undo_2 0 rfl rfl)
theorem dX3_undo_49 : decode cX3_undo 49 = .ok (.iconst 1, 1) := dk_4 (dk_at dksX3_undo_2 1 rfl rfl)
theorem dX3_undo_50 : decode cX3_undo 50 = .ok (.iadd, 1) := dk_96 (dk_at dksX3_undo_2 2 rfl rfl)
theorem dX3_undo_51 : decode cX3_undo 51 = .ok (.iaload, 1) := dk_46 (dk_at dksX3_undo_2 3 rfl rfl)
theorem dX3_undo_52 : decode cX3_undo 52 = .ok (.iastore, 1) := dk_79 (dk_at dksX3_undo_2 4 rfl rfl)
theorem dX3_undo_53 : decode cX3_undo 53 = .ok (.aload_n 0, 1) := dk_42 (dk_at dksX3_undo_2 5 rfl rfl)
theorem dX3_undo_54 : decode cX3_undo 54 = .ok (.getfield 335, 3) := dk_180 1 79 (dk_at dksX3_undo_2 6 rfl rfl)
theorem dX3_undo_57 : decode cX3_undo 57 = .ok (.ireturn, 1) := dk_172 (dk_at dksX3_undo_2 9 rfl rfl)
abbrev cX3_count : ByteArray := prog_14_method_59_code
def yX3_count : MethodName := ⟨RX3, "count", "(I)I"⟩
def dkwX3_count_5 : List UInt8 := [172, 42, 180, 0, 150, 172, 42, 180, 0, 41, 27, 16, 14, 100, 46, 172]
abbrev dktX3_count_5 : List UInt8 := dkwX3_count_5 ++ []
def dkwX3_count_4 : List UInt8 := [5, 46, 172, 42, 180, 0, 78, 6, 46, 172, 42, 182, 1, 133, 172, 42, 180, 1, 79, 172, 42, 180, 1, 82]
abbrev dktX3_count_4 : List UInt8 := dkwX3_count_4 ++ dktX3_count_5
def dkwX3_count_3 : List UInt8 := [172, 42, 180, 0, 78, 3, 46, 172, 42, 180, 0, 7, 172, 42, 180, 0, 78, 4, 46, 172, 42, 180, 0, 78]
abbrev dktX3_count_3 : List UInt8 := dkwX3_count_3 ++ dktX3_count_4
def dkwX3_count_2 : List UInt8 := [42, 180, 1, 57, 172, 42, 180, 1, 60, 172, 42, 180, 1, 63, 172, 42, 180, 1, 66, 172, 42, 180, 1, 69]
abbrev dktX3_count_2 : List UInt8 := dkwX3_count_2 ++ dktX3_count_3
def dkwX3_count_1 : List UInt8 := [170, 0, 0, 0, 147, 0, 0, 0, 0, 0, 0, 0, 13, 0, 0, 0, 69, 0, 0, 0, 74, 0, 0, 0, 79, 0, 0, 0, 84, 0, 0, 0, 89, 0, 0, 0, 94, 0, 0, 0, 101, 0, 0, 0, 106, 0, 0, 0, 113, 0, 0, 0, 120, 0, 0, 0, 127, 0, 0, 0, 132, 0, 0, 0, 137, 0, 0, 0, 142]
abbrev dktX3_count_1 : List UInt8 := dkwX3_count_1 ++ dktX3_count_2
def dkwX3_count_0 : List UInt8 := [42, 3, 181, 0, 147, 42, 27, 3, 16, 16, 184, 1, 129, 4, 182, 1, 50, 154, 0, 5, 3, 172, 27]
abbrev dktX3_count_0 : List UInt8 := dkwX3_count_0 ++ dktX3_count_1
theorem dksX3_count_0 : cX3_count.data.toList.drop 0 = dktX3_count_0 := by decide +kernel
theorem dksX3_count_1 : cX3_count.data.toList.drop 23 = dktX3_count_1 := dk_seg dksX3_count_0 23 rfl rfl
theorem dksX3_count_2 : cX3_count.data.toList.drop 92 = dktX3_count_2 := dk_seg dksX3_count_1 69 rfl rfl
theorem dksX3_count_3 : cX3_count.data.toList.drop 116 = dktX3_count_3 := dk_seg dksX3_count_2 24 rfl rfl
theorem dksX3_count_4 : cX3_count.data.toList.drop 140 = dktX3_count_4 := dk_seg dksX3_count_3 24 rfl rfl
theorem dksX3_count_5 : cX3_count.data.toList.drop 164 = dktX3_count_5 := dk_seg dksX3_count_4 24 rfl rfl
theorem dX3_count_0 : decode cX3_count 0 = .ok (.aload_n 0, 1) := dk_42 (dk_at dksX3_count_0 0 rfl rfl)
theorem dX3_count_1 : decode cX3_count 1 = .ok (.iconst 0, 1) := dk_3 (dk_at dksX3_count_0 1 rfl rfl)
theorem dX3_count_2 : decode cX3_count 2 = .ok (.putfield 147, 3) := dk_181 0 147 (dk_at dksX3_count_0 2 rfl rfl)
theorem dX3_count_5 : decode cX3_count 5 = .ok (.aload_n 0, 1) := dk_42 (dk_at dksX3_count_0 5 rfl rfl)
theorem dX3_count_6 : decode cX3_count 6 = .ok (.iload_n 1, 1) := dk_27 (dk_at dksX3_count_0 6 rfl rfl)
theorem dX3_count_7 : decode cX3_count 7 = .ok (.iconst 0, 1) := dk_3 (dk_at dksX3_count_0 7 rfl rfl)
theorem dX3_count_8 : decode cX3_count 8 = .ok (.bipush 16, 2) := dk_16 16 (dk_at dksX3_count_0 8 rfl rfl)
theorem dX3_count_10 : decode cX3_count 10 = .ok (.invokestatic 385, 3) := dk_184 1 129 (dk_at dksX3_count_0 10 rfl rfl)
theorem dX3_count_13 : decode cX3_count 13 = .ok (.iconst 1, 1) := dk_4 (dk_at dksX3_count_0 13 rfl rfl)
theorem dX3_count_14 : decode cX3_count 14 = .ok (.invokevirtual 306, 3) := dk_182 1 50 (dk_at dksX3_count_0 14 rfl rfl)
theorem dX3_count_17 : decode cX3_count 17 = .ok (.ifCond .ne 5, 3) := dk_154 0 5 (dk_at dksX3_count_0 17 rfl rfl)
theorem dX3_count_20 : decode cX3_count 20 = .ok (.iconst 0, 1) := dk_3 (dk_at dksX3_count_0 20 rfl rfl)
theorem dX3_count_21 : decode cX3_count 21 = .ok (.ireturn, 1) := dk_172 (dk_at dksX3_count_0 21 rfl rfl)
theorem dX3_count_22 : decode cX3_count 22 = .ok (.iload_n 1, 1) := dk_27 (dk_at dksX3_count_0 22 rfl rfl)
theorem dX3_count_23 : decode cX3_count 23 = .ok (.tableswitch 147 0 13 #[69, 74, 79, 84, 89, 94, 101, 106, 113, 120, 127, 132, 137, 142], 69) := by decide +kernel
theorem dX3_count_92 : decode cX3_count 92 = .ok (.aload_n 0, 1) := dk_42 (dk_at dksX3_count_2 0 rfl rfl)
theorem dX3_count_93 : decode cX3_count 93 = .ok (.getfield 313, 3) := dk_180 1 57 (dk_at dksX3_count_2 1 rfl rfl)
theorem dX3_count_96 : decode cX3_count 96 = .ok (.ireturn, 1) := dk_172 (dk_at dksX3_count_2 4 rfl rfl)
theorem dX3_count_97 : decode cX3_count 97 = .ok (.aload_n 0, 1) := dk_42 (dk_at dksX3_count_2 5 rfl rfl)
theorem dX3_count_98 : decode cX3_count 98 = .ok (.getfield 316, 3) := dk_180 1 60 (dk_at dksX3_count_2 6 rfl rfl)
theorem dX3_count_101 : decode cX3_count 101 = .ok (.ireturn, 1) := dk_172 (dk_at dksX3_count_2 9 rfl rfl)
theorem dX3_count_102 : decode cX3_count 102 = .ok (.aload_n 0, 1) := dk_42 (dk_at dksX3_count_2 10 rfl rfl)
theorem dX3_count_103 : decode cX3_count 103 = .ok (.getfield 319, 3) := dk_180 1 63 (dk_at dksX3_count_2 11 rfl rfl)
theorem dX3_count_106 : decode cX3_count 106 = .ok (.ireturn, 1) := dk_172 (dk_at dksX3_count_2 14 rfl rfl)
theorem dX3_count_107 : decode cX3_count 107 = .ok (.aload_n 0, 1) := dk_42 (dk_at dksX3_count_2 15 rfl rfl)
theorem dX3_count_108 : decode cX3_count 108 = .ok (.getfield 322, 3) := dk_180 1 66 (dk_at dksX3_count_2 16 rfl rfl)
theorem dX3_count_111 : decode cX3_count 111 = .ok (.ireturn, 1) := dk_172 (dk_at dksX3_count_2 19 rfl rfl)
theorem dX3_count_112 : decode cX3_count 112 = .ok (.aload_n 0, 1) := dk_42 (dk_at dksX3_count_2 20 rfl rfl)
theorem dX3_count_113 : decode cX3_count 113 = .ok (.getfield 325, 3) := dk_180 1 69 (dk_at dksX3_count_2 21 rfl rfl)
theorem dX3_count_116 : decode cX3_count 116 = .ok (.ireturn, 1) := dk_172 (dk_at dksX3_count_3 0 rfl rfl)
theorem dX3_count_117 : decode cX3_count 117 = .ok (.aload_n 0, 1) := dk_42 (dk_at dksX3_count_3 1 rfl rfl)
theorem dX3_count_118 : decode cX3_count 118 = .ok (.getfield 78, 3) := dk_180 0 78 (dk_at dksX3_count_3 2 rfl rfl)
theorem dX3_count_121 : decode cX3_count 121 = .ok (.iconst 0, 1) := dk_3 (dk_at dksX3_count_3 5 rfl rfl)
theorem dX3_count_122 : decode cX3_count 122 = .ok (.iaload, 1) := dk_46 (dk_at dksX3_count_3 6 rfl rfl)
theorem dX3_count_123 : decode cX3_count 123 = .ok (.ireturn, 1) := dk_172 (dk_at dksX3_count_3 7 rfl rfl)
theorem dX3_count_124 : decode cX3_count 124 = .ok (.aload_n 0, 1) := dk_42 (dk_at dksX3_count_3 8 rfl rfl)
theorem dX3_count_125 : decode cX3_count 125 = .ok (.getfield 7, 3) := dk_180 0 7 (dk_at dksX3_count_3 9 rfl rfl)
theorem dX3_count_128 : decode cX3_count 128 = .ok (.ireturn, 1) := dk_172 (dk_at dksX3_count_3 12 rfl rfl)
theorem dX3_count_129 : decode cX3_count 129 = .ok (.aload_n 0, 1) := dk_42 (dk_at dksX3_count_3 13 rfl rfl)
theorem dX3_count_130 : decode cX3_count 130 = .ok (.getfield 78, 3) := dk_180 0 78 (dk_at dksX3_count_3 14 rfl rfl)
theorem dX3_count_133 : decode cX3_count 133 = .ok (.iconst 1, 1) := dk_4 (dk_at dksX3_count_3 17 rfl rfl)
theorem dX3_count_134 : decode cX3_count 134 = .ok (.iaload, 1) := dk_46 (dk_at dksX3_count_3 18 rfl rfl)
theorem dX3_count_135 : decode cX3_count 135 = .ok (.ireturn, 1) := dk_172 (dk_at dksX3_count_3 19 rfl rfl)
theorem dX3_count_136 : decode cX3_count 136 = .ok (.aload_n 0, 1) := dk_42 (dk_at dksX3_count_3 20 rfl rfl)
theorem dX3_count_137 : decode cX3_count 137 = .ok (.getfield 78, 3) := dk_180 0 78 (dk_at dksX3_count_3 21 rfl rfl)
theorem dX3_count_140 : decode cX3_count 140 = .ok (.iconst 2, 1) := dk_5 (dk_at dksX3_count_4 0 rfl rfl)
theorem dX3_count_141 : decode cX3_count 141 = .ok (.iaload, 1) := dk_46 (dk_at dksX3_count_4 1 rfl rfl)
theorem dX3_count_142 : decode cX3_count 142 = .ok (.ireturn, 1) := dk_172 (dk_at dksX3_count_4 2 rfl rfl)
theorem dX3_count_143 : decode cX3_count 143 = .ok (.aload_n 0, 1) := dk_42 (dk_at dksX3_count_4 3 rfl rfl)
theorem dX3_count_144 : decode cX3_count 144 = .ok (.getfield 78, 3) := dk_180 0 78 (dk_at dksX3_count_4 4 rfl rfl)
theorem dX3_count_147 : decode cX3_count 147 = .ok (.iconst 3, 1) := dk_6 (dk_at dksX3_count_4 7 rfl rfl)
theorem dX3_count_148 : decode cX3_count 148 = .ok (.iaload, 1) := dk_46 (dk_at dksX3_count_4 8 rfl rfl)
theorem dX3_count_149 : decode cX3_count 149 = .ok (.ireturn, 1) := dk_172 (dk_at dksX3_count_4 9 rfl rfl)
theorem dX3_count_150 : decode cX3_count 150 = .ok (.aload_n 0, 1) := dk_42 (dk_at dksX3_count_4 10 rfl rfl)
theorem dX3_count_151 : decode cX3_count 151 = .ok (.invokevirtual 389, 3) := dk_182 1 133 (dk_at dksX3_count_4 11 rfl rfl)
theorem dX3_count_154 : decode cX3_count 154 = .ok (.ireturn, 1) := dk_172 (dk_at dksX3_count_4 14 rfl rfl)
theorem dX3_count_155 : decode cX3_count 155 = .ok (.aload_n 0, 1) := dk_42 (dk_at dksX3_count_4 15 rfl rfl)
theorem dX3_count_156 : decode cX3_count 156 = .ok (.getfield 335, 3) := dk_180 1 79 (dk_at dksX3_count_4 16 rfl rfl)
theorem dX3_count_159 : decode cX3_count 159 = .ok (.ireturn, 1) := dk_172 (dk_at dksX3_count_4 19 rfl rfl)
theorem dX3_count_160 : decode cX3_count 160 = .ok (.aload_n 0, 1) := dk_42 (dk_at dksX3_count_4 20 rfl rfl)
theorem dX3_count_161 : decode cX3_count 161 = .ok (.getfield 338, 3) := dk_180 1 82 (dk_at dksX3_count_4 21 rfl rfl)
theorem dX3_count_164 : decode cX3_count 164 = .ok (.ireturn, 1) := dk_172 (dk_at dksX3_count_5 0 rfl rfl)
theorem dX3_count_165 : decode cX3_count 165 = .ok (.aload_n 0, 1) := dk_42 (dk_at dksX3_count_5 1 rfl rfl)
theorem dX3_count_166 : decode cX3_count 166 = .ok (.getfield 150, 3) := dk_180 0 150 (dk_at dksX3_count_5 2 rfl rfl)
theorem dX3_count_169 : decode cX3_count 169 = .ok (.ireturn, 1) := dk_172 (dk_at dksX3_count_5 5 rfl rfl)
theorem dX3_count_170 : decode cX3_count 170 = .ok (.aload_n 0, 1) := dk_42 (dk_at dksX3_count_5 6 rfl rfl)
theorem dX3_count_171 : decode cX3_count 171 = .ok (.getfield 41, 3) := dk_180 0 41 (dk_at dksX3_count_5 7 rfl rfl)
theorem dX3_count_174 : decode cX3_count 174 = .ok (.iload_n 1, 1) := dk_27 (dk_at dksX3_count_5 10 rfl rfl)
theorem dX3_count_175 : decode cX3_count 175 = .ok (.bipush 14, 2) := dk_16 14 (dk_at dksX3_count_5 11 rfl rfl)
theorem dX3_count_177 : decode cX3_count 177 = .ok (.isub, 1) := dk_100 (dk_at dksX3_count_5 13 rfl rfl)
theorem dX3_count_178 : decode cX3_count 178 = .ok (.iaload, 1) := dk_46 (dk_at dksX3_count_5 14 rfl rfl)
theorem dX3_count_179 : decode cX3_count 179 = .ok (.ireturn, 1) := dk_172 (dk_at dksX3_count_5 15 rfl rfl)
abbrev cX3_within : ByteArray := prog_14_method_4_code
def yX3_within : MethodName := ⟨RX3, "within", "(III)Z"⟩
def dkwX3_within_0 : List UInt8 := [26, 27, 161, 0, 12, 26, 28, 163, 0, 7, 4, 167, 0, 4, 3, 172]
abbrev dktX3_within_0 : List UInt8 := dkwX3_within_0 ++ []
theorem dksX3_within_0 : cX3_within.data.toList.drop 0 = dktX3_within_0 := by decide +kernel
theorem dX3_within_0 : decode cX3_within 0 = .ok (.iload_n 0, 1) := dk_26 (dk_at dksX3_within_0 0 rfl rfl)
theorem dX3_within_1 : decode cX3_within 1 = .ok (.iload_n 1, 1) := dk_27 (dk_at dksX3_within_0 1 rfl rfl)
theorem dX3_within_2 : decode cX3_within 2 = .ok (.if_icmp .lt 12, 3) := dk_161 0 12 (dk_at dksX3_within_0 2 rfl rfl)
theorem dX3_within_5 : decode cX3_within 5 = .ok (.iload_n 0, 1) := dk_26 (dk_at dksX3_within_0 5 rfl rfl)
theorem dX3_within_6 : decode cX3_within 6 = .ok (.iload_n 2, 1) := dk_28 (dk_at dksX3_within_0 6 rfl rfl)
theorem dX3_within_7 : decode cX3_within 7 = .ok (.if_icmp .gt 7, 3) := dk_163 0 7 (dk_at dksX3_within_0 7 rfl rfl)
theorem dX3_within_10 : decode cX3_within 10 = .ok (.iconst 1, 1) := dk_4 (dk_at dksX3_within_0 10 rfl rfl)
theorem dX3_within_11 : decode cX3_within 11 = .ok (.goto 4, 3) := dk_167 0 4 (dk_at dksX3_within_0 11 rfl rfl)
theorem dX3_within_14 : decode cX3_within 14 = .ok (.iconst 0, 1) := dk_3 (dk_at dksX3_within_0 14 rfl rfl)
theorem dX3_within_15 : decode cX3_within 15 = .ok (.ireturn, 1) := dk_172 (dk_at dksX3_within_0 15 rfl rfl)
abbrev cX3_homes : ByteArray := prog_14_method_58_code
def yX3_homes : MethodName := ⟨RX3, "homes", "()I"⟩
def dkwX3_homes_1 : List UInt8 := [19, 1, 92, 162, 0, 7, 4, 167, 0, 4, 3, 96, 60, 132, 2, 1, 167, 255, 226, 27, 172]
abbrev dktX3_homes_1 : List UInt8 := dkwX3_homes_1 ++ []
def dkwX3_homes_0 : List UInt8 := [42, 182, 1, 123, 3, 60, 3, 61, 28, 42, 180, 1, 66, 162, 0, 28, 27, 42, 28, 182, 1, 126]
abbrev dktX3_homes_0 : List UInt8 := dkwX3_homes_0 ++ dktX3_homes_1
theorem dksX3_homes_0 : cX3_homes.data.toList.drop 0 = dktX3_homes_0 := by decide +kernel
theorem dksX3_homes_1 : cX3_homes.data.toList.drop 22 = dktX3_homes_1 := dk_seg dksX3_homes_0 22 rfl rfl
theorem dX3_homes_0 : decode cX3_homes 0 = .ok (.aload_n 0, 1) := dk_42 (dk_at dksX3_homes_0 0 rfl rfl)
theorem dX3_homes_1 : decode cX3_homes 1 = .ok (.invokevirtual 379, 3) := dk_182 1 123 (dk_at dksX3_homes_0 1 rfl rfl)
theorem dX3_homes_4 : decode cX3_homes 4 = .ok (.iconst 0, 1) := dk_3 (dk_at dksX3_homes_0 4 rfl rfl)
theorem dX3_homes_5 : decode cX3_homes 5 = .ok (.istore_n 1, 1) := dk_60 (dk_at dksX3_homes_0 5 rfl rfl)
theorem dX3_homes_6 : decode cX3_homes 6 = .ok (.iconst 0, 1) := dk_3 (dk_at dksX3_homes_0 6 rfl rfl)
theorem dX3_homes_7 : decode cX3_homes 7 = .ok (.istore_n 2, 1) := dk_61 (dk_at dksX3_homes_0 7 rfl rfl)
theorem dX3_homes_8 : decode cX3_homes 8 = .ok (.iload_n 2, 1) := dk_28 (dk_at dksX3_homes_0 8 rfl rfl)
theorem dX3_homes_9 : decode cX3_homes 9 = .ok (.aload_n 0, 1) := dk_42 (dk_at dksX3_homes_0 9 rfl rfl)
theorem dX3_homes_10 : decode cX3_homes 10 = .ok (.getfield 322, 3) := dk_180 1 66 (dk_at dksX3_homes_0 10 rfl rfl)
theorem dX3_homes_13 : decode cX3_homes 13 = .ok (.if_icmp .ge 28, 3) := dk_162 0 28 (dk_at dksX3_homes_0 13 rfl rfl)
theorem dX3_homes_16 : decode cX3_homes 16 = .ok (.iload_n 1, 1) := dk_27 (dk_at dksX3_homes_0 16 rfl rfl)
theorem dX3_homes_17 : decode cX3_homes 17 = .ok (.aload_n 0, 1) := dk_42 (dk_at dksX3_homes_0 17 rfl rfl)
theorem dX3_homes_18 : decode cX3_homes 18 = .ok (.iload_n 2, 1) := dk_28 (dk_at dksX3_homes_0 18 rfl rfl)
theorem dX3_homes_19 : decode cX3_homes 19 = .ok (.invokevirtual 382, 3) := dk_182 1 126 (dk_at dksX3_homes_0 19 rfl rfl)
theorem dX3_homes_22 : decode cX3_homes 22 = .ok (.ldc_w 348, 3) := dk_19 1 92 (dk_at dksX3_homes_1 0 rfl rfl)
theorem dX3_homes_25 : decode cX3_homes 25 = .ok (.if_icmp .ge 7, 3) := dk_162 0 7 (dk_at dksX3_homes_1 3 rfl rfl)
theorem dX3_homes_28 : decode cX3_homes 28 = .ok (.iconst 1, 1) := dk_4 (dk_at dksX3_homes_1 6 rfl rfl)
theorem dX3_homes_29 : decode cX3_homes 29 = .ok (.goto 4, 3) := dk_167 0 4 (dk_at dksX3_homes_1 7 rfl rfl)
theorem dX3_homes_32 : decode cX3_homes 32 = .ok (.iconst 0, 1) := dk_3 (dk_at dksX3_homes_1 10 rfl rfl)
theorem dX3_homes_33 : decode cX3_homes 33 = .ok (.iadd, 1) := dk_96 (dk_at dksX3_homes_1 11 rfl rfl)
theorem dX3_homes_34 : decode cX3_homes 34 = .ok (.istore_n 1, 1) := dk_60 (dk_at dksX3_homes_1 12 rfl rfl)
theorem dX3_homes_35 : decode cX3_homes 35 = .ok (.iinc 2 1, 3) := dk_132 2 1 (dk_at dksX3_homes_1 13 rfl rfl)
theorem dX3_homes_38 : decode cX3_homes 38 = .ok (.goto (-30), 3) := dk_167 255 226 (dk_at dksX3_homes_1 16 rfl rfl)
theorem dX3_homes_41 : decode cX3_homes 41 = .ok (.iload_n 1, 1) := dk_27 (dk_at dksX3_homes_1 19 rfl rfl)
theorem dX3_homes_42 : decode cX3_homes 42 = .ok (.ireturn, 1) := dk_172 (dk_at dksX3_homes_1 20 rfl rfl)
abbrev cX3_nights : ByteArray := prog_14_method_50_code
def yX3_nights : MethodName := ⟨RX3, "nights", "()V"⟩
def dkwX3_nights_13 : List UInt8 := [4, 96, 46, 182, 1, 106, 96, 79, 167, 255, 34, 177]
abbrev dktX3_nights_13 : List UInt8 := dkwX3_nights_13 ++ []
def dkwX3_nights_12 : List UInt8 := [46, 162, 0, 31, 42, 180, 0, 111, 28, 42, 180, 0, 99, 29, 46, 42, 28, 21, 4, 42, 180, 0, 23, 29]
abbrev dktX3_nights_12 : List UInt8 := dkwX3_nights_12 ++ dktX3_nights_13
def dkwX3_nights_11 : List UInt8 := [4, 96, 79, 42, 180, 0, 108, 28, 92, 46, 4, 96, 79, 42, 180, 0, 108, 28, 46, 42, 180, 0, 20, 28]
abbrev dktX3_nights_11 : List UInt8 := dkwX3_nights_11 ++ dktX3_nights_12
def dkwX3_nights_10 : List UInt8 := [21, 4, 46, 158, 0, 24, 42, 180, 0, 102, 21, 4, 92, 46, 4, 100, 79, 42, 180, 0, 105, 28, 92, 46]
abbrev dktX3_nights_10 : List UInt8 := dkwX3_nights_10 ++ dktX3_nights_11
def dkwX3_nights_9 : List UInt8 := [180, 0, 99, 29, 42, 180, 0, 111, 28, 46, 21, 5, 96, 79, 21, 5, 158, 0, 34, 42, 180, 0, 102]
abbrev dktX3_nights_9 : List UInt8 := dkwX3_nights_9 ++ dktX3_nights_10
def dkwX3_nights_8 : List UInt8 := [54, 4, 42, 28, 21, 4, 182, 1, 103, 54, 5, 42, 180, 0, 96, 29, 42, 180, 0, 111, 28, 46, 79, 42]
abbrev dktX3_nights_8 : List UInt8 := dkwX3_nights_8 ++ dktX3_nights_9
def dkwX3_nights_7 : List UInt8 := [154, 0, 6, 167, 255, 182, 16, 8, 28, 104, 42, 180, 0, 108, 28, 46, 96, 62, 42, 180, 0, 23, 29, 46]
abbrev dktX3_nights_7 : List UInt8 := dkwX3_nights_7 ++ dktX3_nights_8
def dkwX3_nights_6 : List UInt8 := [46, 162, 0, 5, 29, 61, 132, 3, 1, 167, 255, 208, 28, 2, 159, 0, 7, 4, 167, 0, 4, 3, 60, 27]
abbrev dktX3_nights_6 : List UInt8 := dkwX3_nights_6 ++ dktX3_nights_7
def dkwX3_nights_5 : List UInt8 := [180, 0, 20, 29, 46, 162, 0, 25, 28, 2, 159, 0, 18, 42, 180, 0, 111, 29, 46, 42, 180, 0, 111, 28]
abbrev dktX3_nights_5 : List UInt8 := dkwX3_nights_5 ++ dktX3_nights_6
def dkwX3_nights_4 : List UInt8 := [27, 153, 0, 224, 2, 61, 3, 62, 29, 42, 180, 1, 63, 162, 0, 46, 42, 180, 0, 108, 29, 46, 42]
abbrev dktX3_nights_4 : List UInt8 := dkwX3_nights_4 ++ dktX3_nights_5
def dkwX3_nights_3 : List UInt8 := [79, 42, 180, 0, 111, 27, 42, 180, 0, 78, 16, 14, 27, 96, 46, 79, 132, 1, 1, 167, 255, 199, 4, 60]
abbrev dktX3_nights_3 : List UInt8 := dkwX3_nights_3 ++ dktX3_nights_4
def dkwX3_nights_2 : List UInt8 := [79, 42, 180, 0, 108, 27, 42, 27, 182, 1, 100, 153, 0, 12, 42, 180, 0, 20, 27, 46, 167, 0, 4, 3]
abbrev dktX3_nights_2 : List UInt8 := dkwX3_nights_2 ++ dktX3_nights_3
def dkwX3_nights_1 : List UInt8 := [104, 79, 132, 1, 1, 167, 255, 229, 3, 60, 27, 42, 180, 1, 63, 162, 0, 55, 42, 180, 0, 105, 27, 3]
abbrev dktX3_nights_1 : List UInt8 := dkwX3_nights_1 ++ dktX3_nights_2
def dkwX3_nights_0 : List UInt8 := [3, 60, 27, 42, 180, 1, 57, 162, 0, 25, 42, 180, 0, 102, 27, 5, 42, 180, 0, 78, 7, 27, 96, 46]
abbrev dktX3_nights_0 : List UInt8 := dkwX3_nights_0 ++ dktX3_nights_1
theorem dksX3_nights_0 : cX3_nights.data.toList.drop 0 = dktX3_nights_0 := by decide +kernel
theorem dksX3_nights_1 : cX3_nights.data.toList.drop 24 = dktX3_nights_1 := dk_seg dksX3_nights_0 24 rfl rfl
theorem dksX3_nights_2 : cX3_nights.data.toList.drop 48 = dktX3_nights_2 := dk_seg dksX3_nights_1 24 rfl rfl
theorem dksX3_nights_3 : cX3_nights.data.toList.drop 72 = dktX3_nights_3 := dk_seg dksX3_nights_2 24 rfl rfl
theorem dksX3_nights_4 : cX3_nights.data.toList.drop 96 = dktX3_nights_4 := dk_seg dksX3_nights_3 24 rfl rfl
theorem dksX3_nights_5 : cX3_nights.data.toList.drop 119 = dktX3_nights_5 := dk_seg dksX3_nights_4 23 rfl rfl
theorem dksX3_nights_6 : cX3_nights.data.toList.drop 143 = dktX3_nights_6 := dk_seg dksX3_nights_5 24 rfl rfl
theorem dksX3_nights_7 : cX3_nights.data.toList.drop 167 = dktX3_nights_7 := dk_seg dksX3_nights_6 24 rfl rfl
theorem dksX3_nights_8 : cX3_nights.data.toList.drop 191 = dktX3_nights_8 := dk_seg dksX3_nights_7 24 rfl rfl
theorem dksX3_nights_9 : cX3_nights.data.toList.drop 215 = dktX3_nights_9 := dk_seg dksX3_nights_8 24 rfl rfl
theorem dksX3_nights_10 : cX3_nights.data.toList.drop 238 = dktX3_nights_10 := dk_seg dksX3_nights_9 23 rfl rfl
theorem dksX3_nights_11 : cX3_nights.data.toList.drop 262 = dktX3_nights_11 := dk_seg dksX3_nights_10 24 rfl rfl
theorem dksX3_nights_12 : cX3_nights.data.toList.drop 286 = dktX3_nights_12 := dk_seg dksX3_nights_11 24 rfl rfl
theorem dksX3_nights_13 : cX3_nights.data.toList.drop 310 = dktX3_nights_13 := dk_seg dksX3_nights_12 24 rfl rfl
theorem dX3_nights_0 : decode cX3_nights 0 = .ok (.iconst 0, 1) := dk_3 (dk_at dksX3_nights_0 0 rfl rfl)
theorem dX3_nights_1 : decode cX3_nights 1 = .ok (.istore_n 1, 1) := dk_60 (dk_at dksX3_nights_0 1 rfl rfl)
theorem dX3_nights_2 : decode cX3_nights 2 = .ok (.iload_n 1, 1) := dk_27 (dk_at dksX3_nights_0 2 rfl rfl)
theorem dX3_nights_3 : decode cX3_nights 3 = .ok (.aload_n 0, 1) := dk_42 (dk_at dksX3_nights_0 3 rfl rfl)
theorem dX3_nights_4 : decode cX3_nights 4 = .ok (.getfield 313, 3) := dk_180 1 57 (dk_at dksX3_nights_0 4 rfl rfl)
theorem dX3_nights_7 : decode cX3_nights 7 = .ok (.if_icmp .ge 25, 3) := dk_162 0 25 (dk_at dksX3_nights_0 7 rfl rfl)
theorem dX3_nights_10 : decode cX3_nights 10 = .ok (.aload_n 0, 1) := dk_42 (dk_at dksX3_nights_0 10 rfl rfl)
theorem dX3_nights_11 : decode cX3_nights 11 = .ok (.getfield 102, 3) := dk_180 0 102 (dk_at dksX3_nights_0 11 rfl rfl)
theorem dX3_nights_14 : decode cX3_nights 14 = .ok (.iload_n 1, 1) := dk_27 (dk_at dksX3_nights_0 14 rfl rfl)
theorem dX3_nights_15 : decode cX3_nights 15 = .ok (.iconst 2, 1) := dk_5 (dk_at dksX3_nights_0 15 rfl rfl)
theorem dX3_nights_16 : decode cX3_nights 16 = .ok (.aload_n 0, 1) := dk_42 (dk_at dksX3_nights_0 16 rfl rfl)
theorem dX3_nights_17 : decode cX3_nights 17 = .ok (.getfield 78, 3) := dk_180 0 78 (dk_at dksX3_nights_0 17 rfl rfl)
theorem dX3_nights_20 : decode cX3_nights 20 = .ok (.iconst 4, 1) := dk_7 (dk_at dksX3_nights_0 20 rfl rfl)
theorem dX3_nights_21 : decode cX3_nights 21 = .ok (.iload_n 1, 1) := dk_27 (dk_at dksX3_nights_0 21 rfl rfl)
theorem dX3_nights_22 : decode cX3_nights 22 = .ok (.iadd, 1) := dk_96 (dk_at dksX3_nights_0 22 rfl rfl)
theorem dX3_nights_23 : decode cX3_nights 23 = .ok (.iaload, 1) := dk_46 (dk_at dksX3_nights_0 23 rfl rfl)
theorem dX3_nights_24 : decode cX3_nights 24 = .ok (.imul, 1) := dk_104 (dk_at dksX3_nights_1 0 rfl rfl)
theorem dX3_nights_25 : decode cX3_nights 25 = .ok (.iastore, 1) := dk_79 (dk_at dksX3_nights_1 1 rfl rfl)
theorem dX3_nights_26 : decode cX3_nights 26 = .ok (.iinc 1 1, 3) := dk_132 1 1 (dk_at dksX3_nights_1 2 rfl rfl)
theorem dX3_nights_29 : decode cX3_nights 29 = .ok (.goto (-27), 3) := dk_167 255 229 (dk_at dksX3_nights_1 5 rfl rfl)
theorem dX3_nights_32 : decode cX3_nights 32 = .ok (.iconst 0, 1) := dk_3 (dk_at dksX3_nights_1 8 rfl rfl)
theorem dX3_nights_33 : decode cX3_nights 33 = .ok (.istore_n 1, 1) := dk_60 (dk_at dksX3_nights_1 9 rfl rfl)
theorem dX3_nights_34 : decode cX3_nights 34 = .ok (.iload_n 1, 1) := dk_27 (dk_at dksX3_nights_1 10 rfl rfl)
theorem dX3_nights_35 : decode cX3_nights 35 = .ok (.aload_n 0, 1) := dk_42 (dk_at dksX3_nights_1 11 rfl rfl)
theorem dX3_nights_36 : decode cX3_nights 36 = .ok (.getfield 319, 3) := dk_180 1 63 (dk_at dksX3_nights_1 12 rfl rfl)
theorem dX3_nights_39 : decode cX3_nights 39 = .ok (.if_icmp .ge 55, 3) := dk_162 0 55 (dk_at dksX3_nights_1 15 rfl rfl)
theorem dX3_nights_42 : decode cX3_nights 42 = .ok (.aload_n 0, 1) := dk_42 (dk_at dksX3_nights_1 18 rfl rfl)
theorem dX3_nights_43 : decode cX3_nights 43 = .ok (.getfield 105, 3) := dk_180 0 105 (dk_at dksX3_nights_1 19 rfl rfl)
theorem dX3_nights_46 : decode cX3_nights 46 = .ok (.iload_n 1, 1) := dk_27 (dk_at dksX3_nights_1 22 rfl rfl)
theorem dX3_nights_47 : decode cX3_nights 47 = .ok (.iconst 0, 1) := dk_3 (dk_at dksX3_nights_1 23 rfl rfl)
theorem dX3_nights_48 : decode cX3_nights 48 = .ok (.iastore, 1) := dk_79 (dk_at dksX3_nights_2 0 rfl rfl)
theorem dX3_nights_49 : decode cX3_nights 49 = .ok (.aload_n 0, 1) := dk_42 (dk_at dksX3_nights_2 1 rfl rfl)
theorem dX3_nights_50 : decode cX3_nights 50 = .ok (.getfield 108, 3) := dk_180 0 108 (dk_at dksX3_nights_2 2 rfl rfl)
theorem dX3_nights_53 : decode cX3_nights 53 = .ok (.iload_n 1, 1) := dk_27 (dk_at dksX3_nights_2 5 rfl rfl)
theorem dX3_nights_54 : decode cX3_nights 54 = .ok (.aload_n 0, 1) := dk_42 (dk_at dksX3_nights_2 6 rfl rfl)
theorem dX3_nights_55 : decode cX3_nights 55 = .ok (.iload_n 1, 1) := dk_27 (dk_at dksX3_nights_2 7 rfl rfl)
theorem dX3_nights_56 : decode cX3_nights 56 = .ok (.invokevirtual 356, 3) := dk_182 1 100 (dk_at dksX3_nights_2 8 rfl rfl)
theorem dX3_nights_59 : decode cX3_nights 59 = .ok (.ifCond .eq 12, 3) := dk_153 0 12 (dk_at dksX3_nights_2 11 rfl rfl)
theorem dX3_nights_62 : decode cX3_nights 62 = .ok (.aload_n 0, 1) := dk_42 (dk_at dksX3_nights_2 14 rfl rfl)
theorem dX3_nights_63 : decode cX3_nights 63 = .ok (.getfield 20, 3) := dk_180 0 20 (dk_at dksX3_nights_2 15 rfl rfl)
theorem dX3_nights_66 : decode cX3_nights 66 = .ok (.iload_n 1, 1) := dk_27 (dk_at dksX3_nights_2 18 rfl rfl)
theorem dX3_nights_67 : decode cX3_nights 67 = .ok (.iaload, 1) := dk_46 (dk_at dksX3_nights_2 19 rfl rfl)
theorem dX3_nights_68 : decode cX3_nights 68 = .ok (.goto 4, 3) := dk_167 0 4 (dk_at dksX3_nights_2 20 rfl rfl)
theorem dX3_nights_71 : decode cX3_nights 71 = .ok (.iconst 0, 1) := dk_3 (dk_at dksX3_nights_2 23 rfl rfl)
theorem dX3_nights_72 : decode cX3_nights 72 = .ok (.iastore, 1) := dk_79 (dk_at dksX3_nights_3 0 rfl rfl)
theorem dX3_nights_73 : decode cX3_nights 73 = .ok (.aload_n 0, 1) := dk_42 (dk_at dksX3_nights_3 1 rfl rfl)
theorem dX3_nights_74 : decode cX3_nights 74 = .ok (.getfield 111, 3) := dk_180 0 111 (dk_at dksX3_nights_3 2 rfl rfl)
theorem dX3_nights_77 : decode cX3_nights 77 = .ok (.iload_n 1, 1) := dk_27 (dk_at dksX3_nights_3 5 rfl rfl)
theorem dX3_nights_78 : decode cX3_nights 78 = .ok (.aload_n 0, 1) := dk_42 (dk_at dksX3_nights_3 6 rfl rfl)
theorem dX3_nights_79 : decode cX3_nights 79 = .ok (.getfield 78, 3) := dk_180 0 78 (dk_at dksX3_nights_3 7 rfl rfl)
theorem dX3_nights_82 : decode cX3_nights 82 = .ok (.bipush 14, 2) := dk_16 14 (dk_at dksX3_nights_3 10 rfl rfl)
theorem dX3_nights_84 : decode cX3_nights 84 = .ok (.iload_n 1, 1) := dk_27 (dk_at dksX3_nights_3 12 rfl rfl)
theorem dX3_nights_85 : decode cX3_nights 85 = .ok (.iadd, 1) := dk_96 (dk_at dksX3_nights_3 13 rfl rfl)
theorem dX3_nights_86 : decode cX3_nights 86 = .ok (.iaload, 1) := dk_46 (dk_at dksX3_nights_3 14 rfl rfl)
theorem dX3_nights_87 : decode cX3_nights 87 = .ok (.iastore, 1) := dk_79 (dk_at dksX3_nights_3 15 rfl rfl)
theorem dX3_nights_88 : decode cX3_nights 88 = .ok (.iinc 1 1, 3) := dk_132 1 1 (dk_at dksX3_nights_3 16 rfl rfl)
theorem dX3_nights_91 : decode cX3_nights 91 = .ok (.goto (-57), 3) := dk_167 255 199 (dk_at dksX3_nights_3 19 rfl rfl)
theorem dX3_nights_94 : decode cX3_nights 94 = .ok (.iconst 1, 1) := dk_4 (dk_at dksX3_nights_3 22 rfl rfl)
theorem dX3_nights_95 : decode cX3_nights 95 = .ok (.istore_n 1, 1) := dk_60 (dk_at dksX3_nights_3 23 rfl rfl)
theorem dX3_nights_96 : decode cX3_nights 96 = .ok (.iload_n 1, 1) := dk_27 (dk_at dksX3_nights_4 0 rfl rfl)
theorem dX3_nights_97 : decode cX3_nights 97 = .ok (.ifCond .eq 224, 3) := dk_153 0 224 (dk_at dksX3_nights_4 1 rfl rfl)
theorem dX3_nights_100 : decode cX3_nights 100 = .ok (.iconst (-1), 1) := dk_2 (dk_at dksX3_nights_4 4 rfl rfl)
theorem dX3_nights_101 : decode cX3_nights 101 = .ok (.istore_n 2, 1) := dk_61 (dk_at dksX3_nights_4 5 rfl rfl)
theorem dX3_nights_102 : decode cX3_nights 102 = .ok (.iconst 0, 1) := dk_3 (dk_at dksX3_nights_4 6 rfl rfl)
theorem dX3_nights_103 : decode cX3_nights 103 = .ok (.istore_n 3, 1) := dk_62 (dk_at dksX3_nights_4 7 rfl rfl)
theorem dX3_nights_104 : decode cX3_nights 104 = .ok (.iload_n 3, 1) := dk_29 (dk_at dksX3_nights_4 8 rfl rfl)
theorem dX3_nights_105 : decode cX3_nights 105 = .ok (.aload_n 0, 1) := dk_42 (dk_at dksX3_nights_4 9 rfl rfl)
theorem dX3_nights_106 : decode cX3_nights 106 = .ok (.getfield 319, 3) := dk_180 1 63 (dk_at dksX3_nights_4 10 rfl rfl)
theorem dX3_nights_109 : decode cX3_nights 109 = .ok (.if_icmp .ge 46, 3) := dk_162 0 46 (dk_at dksX3_nights_4 13 rfl rfl)
theorem dX3_nights_112 : decode cX3_nights 112 = .ok (.aload_n 0, 1) := dk_42 (dk_at dksX3_nights_4 16 rfl rfl)
theorem dX3_nights_113 : decode cX3_nights 113 = .ok (.getfield 108, 3) := dk_180 0 108 (dk_at dksX3_nights_4 17 rfl rfl)
theorem dX3_nights_116 : decode cX3_nights 116 = .ok (.iload_n 3, 1) := dk_29 (dk_at dksX3_nights_4 20 rfl rfl)
theorem dX3_nights_117 : decode cX3_nights 117 = .ok (.iaload, 1) := dk_46 (dk_at dksX3_nights_4 21 rfl rfl)
theorem dX3_nights_118 : decode cX3_nights 118 = .ok (.aload_n 0, 1) := dk_42 (dk_at dksX3_nights_4 22 rfl rfl)
theorem dX3_nights_119 : decode cX3_nights 119 = .ok (.getfield 20, 3) := dk_180 0 20 (dk_at dksX3_nights_5 0 rfl rfl)
theorem dX3_nights_122 : decode cX3_nights 122 = .ok (.iload_n 3, 1) := dk_29 (dk_at dksX3_nights_5 3 rfl rfl)
theorem dX3_nights_123 : decode cX3_nights 123 = .ok (.iaload, 1) := dk_46 (dk_at dksX3_nights_5 4 rfl rfl)
theorem dX3_nights_124 : decode cX3_nights 124 = .ok (.if_icmp .ge 25, 3) := dk_162 0 25 (dk_at dksX3_nights_5 5 rfl rfl)
theorem dX3_nights_127 : decode cX3_nights 127 = .ok (.iload_n 2, 1) := dk_28 (dk_at dksX3_nights_5 8 rfl rfl)
theorem dX3_nights_128 : decode cX3_nights 128 = .ok (.iconst (-1), 1) := dk_2 (dk_at dksX3_nights_5 9 rfl rfl)
theorem dX3_nights_129 : decode cX3_nights 129 = .ok (.if_icmp .eq 18, 3) := dk_159 0 18 (dk_at dksX3_nights_5 10 rfl rfl)
theorem dX3_nights_132 : decode cX3_nights 132 = .ok (.aload_n 0, 1) := dk_42 (dk_at dksX3_nights_5 13 rfl rfl)
theorem dX3_nights_133 : decode cX3_nights 133 = .ok (.getfield 111, 3) := dk_180 0 111 (dk_at dksX3_nights_5 14 rfl rfl)
theorem dX3_nights_136 : decode cX3_nights 136 = .ok (.iload_n 3, 1) := dk_29 (dk_at dksX3_nights_5 17 rfl rfl)
theorem dX3_nights_137 : decode cX3_nights 137 = .ok (.iaload, 1) := dk_46 (dk_at dksX3_nights_5 18 rfl rfl)
theorem dX3_nights_138 : decode cX3_nights 138 = .ok (.aload_n 0, 1) := dk_42 (dk_at dksX3_nights_5 19 rfl rfl)
theorem dX3_nights_139 : decode cX3_nights 139 = .ok (.getfield 111, 3) := dk_180 0 111 (dk_at dksX3_nights_5 20 rfl rfl)
theorem dX3_nights_142 : decode cX3_nights 142 = .ok (.iload_n 2, 1) := dk_28 (dk_at dksX3_nights_5 23 rfl rfl)
theorem dX3_nights_143 : decode cX3_nights 143 = .ok (.iaload, 1) := dk_46 (dk_at dksX3_nights_6 0 rfl rfl)
theorem dX3_nights_144 : decode cX3_nights 144 = .ok (.if_icmp .ge 5, 3) := dk_162 0 5 (dk_at dksX3_nights_6 1 rfl rfl)
theorem dX3_nights_147 : decode cX3_nights 147 = .ok (.iload_n 3, 1) := dk_29 (dk_at dksX3_nights_6 4 rfl rfl)
theorem dX3_nights_148 : decode cX3_nights 148 = .ok (.istore_n 2, 1) := dk_61 (dk_at dksX3_nights_6 5 rfl rfl)
theorem dX3_nights_149 : decode cX3_nights 149 = .ok (.iinc 3 1, 3) := dk_132 3 1 (dk_at dksX3_nights_6 6 rfl rfl)
theorem dX3_nights_152 : decode cX3_nights 152 = .ok (.goto (-48), 3) := dk_167 255 208 (dk_at dksX3_nights_6 9 rfl rfl)
theorem dX3_nights_155 : decode cX3_nights 155 = .ok (.iload_n 2, 1) := dk_28 (dk_at dksX3_nights_6 12 rfl rfl)
theorem dX3_nights_156 : decode cX3_nights 156 = .ok (.iconst (-1), 1) := dk_2 (dk_at dksX3_nights_6 13 rfl rfl)
theorem dX3_nights_157 : decode cX3_nights 157 = .ok (.if_icmp .eq 7, 3) := dk_159 0 7 (dk_at dksX3_nights_6 14 rfl rfl)
theorem dX3_nights_160 : decode cX3_nights 160 = .ok (.iconst 1, 1) := dk_4 (dk_at dksX3_nights_6 17 rfl rfl)
theorem dX3_nights_161 : decode cX3_nights 161 = .ok (.goto 4, 3) := dk_167 0 4 (dk_at dksX3_nights_6 18 rfl rfl)
theorem dX3_nights_164 : decode cX3_nights 164 = .ok (.iconst 0, 1) := dk_3 (dk_at dksX3_nights_6 21 rfl rfl)
theorem dX3_nights_165 : decode cX3_nights 165 = .ok (.istore_n 1, 1) := dk_60 (dk_at dksX3_nights_6 22 rfl rfl)
theorem dX3_nights_166 : decode cX3_nights 166 = .ok (.iload_n 1, 1) := dk_27 (dk_at dksX3_nights_6 23 rfl rfl)
theorem dX3_nights_167 : decode cX3_nights 167 = .ok (.ifCond .ne 6, 3) := dk_154 0 6 (dk_at dksX3_nights_7 0 rfl rfl)
theorem dX3_nights_170 : decode cX3_nights 170 = .ok (.goto (-74), 3) := dk_167 255 182 (dk_at dksX3_nights_7 3 rfl rfl)
theorem dX3_nights_173 : decode cX3_nights 173 = .ok (.bipush 8, 2) := dk_16 8 (dk_at dksX3_nights_7 6 rfl rfl)
theorem dX3_nights_175 : decode cX3_nights 175 = .ok (.iload_n 2, 1) := dk_28 (dk_at dksX3_nights_7 8 rfl rfl)
theorem dX3_nights_176 : decode cX3_nights 176 = .ok (.imul, 1) := dk_104 (dk_at dksX3_nights_7 9 rfl rfl)
theorem dX3_nights_177 : decode cX3_nights 177 = .ok (.aload_n 0, 1) := dk_42 (dk_at dksX3_nights_7 10 rfl rfl)
theorem dX3_nights_178 : decode cX3_nights 178 = .ok (.getfield 108, 3) := dk_180 0 108 (dk_at dksX3_nights_7 11 rfl rfl)
theorem dX3_nights_181 : decode cX3_nights 181 = .ok (.iload_n 2, 1) := dk_28 (dk_at dksX3_nights_7 14 rfl rfl)
theorem dX3_nights_182 : decode cX3_nights 182 = .ok (.iaload, 1) := dk_46 (dk_at dksX3_nights_7 15 rfl rfl)
theorem dX3_nights_183 : decode cX3_nights 183 = .ok (.iadd, 1) := dk_96 (dk_at dksX3_nights_7 16 rfl rfl)
theorem dX3_nights_184 : decode cX3_nights 184 = .ok (.istore_n 3, 1) := dk_62 (dk_at dksX3_nights_7 17 rfl rfl)
theorem dX3_nights_185 : decode cX3_nights 185 = .ok (.aload_n 0, 1) := dk_42 (dk_at dksX3_nights_7 18 rfl rfl)
theorem dX3_nights_186 : decode cX3_nights 186 = .ok (.getfield 23, 3) := dk_180 0 23 (dk_at dksX3_nights_7 19 rfl rfl)
theorem dX3_nights_189 : decode cX3_nights 189 = .ok (.iload_n 3, 1) := dk_29 (dk_at dksX3_nights_7 22 rfl rfl)
theorem dX3_nights_190 : decode cX3_nights 190 = .ok (.iaload, 1) := dk_46 (dk_at dksX3_nights_7 23 rfl rfl)
theorem dX3_nights_191 : decode cX3_nights 191 = .ok (.istore 4, 2) := dk_54 4 (dk_at dksX3_nights_8 0 rfl rfl)
theorem dX3_nights_193 : decode cX3_nights 193 = .ok (.aload_n 0, 1) := dk_42 (dk_at dksX3_nights_8 2 rfl rfl)
theorem dX3_nights_194 : decode cX3_nights 194 = .ok (.iload_n 2, 1) := dk_28 (dk_at dksX3_nights_8 3 rfl rfl)
theorem dX3_nights_195 : decode cX3_nights 195 = .ok (.iload 4, 2) := dk_21 4 (dk_at dksX3_nights_8 4 rfl rfl)
theorem dX3_nights_197 : decode cX3_nights 197 = .ok (.invokevirtual 359, 3) := dk_182 1 103 (dk_at dksX3_nights_8 6 rfl rfl)
theorem dX3_nights_200 : decode cX3_nights 200 = .ok (.istore 5, 2) := dk_54 5 (dk_at dksX3_nights_8 9 rfl rfl)
theorem dX3_nights_202 : decode cX3_nights 202 = .ok (.aload_n 0, 1) := dk_42 (dk_at dksX3_nights_8 11 rfl rfl)
theorem dX3_nights_203 : decode cX3_nights 203 = .ok (.getfield 96, 3) := dk_180 0 96 (dk_at dksX3_nights_8 12 rfl rfl)
theorem dX3_nights_206 : decode cX3_nights 206 = .ok (.iload_n 3, 1) := dk_29 (dk_at dksX3_nights_8 15 rfl rfl)
theorem dX3_nights_207 : decode cX3_nights 207 = .ok (.aload_n 0, 1) := dk_42 (dk_at dksX3_nights_8 16 rfl rfl)
theorem dX3_nights_208 : decode cX3_nights 208 = .ok (.getfield 111, 3) := dk_180 0 111 (dk_at dksX3_nights_8 17 rfl rfl)
theorem dX3_nights_211 : decode cX3_nights 211 = .ok (.iload_n 2, 1) := dk_28 (dk_at dksX3_nights_8 20 rfl rfl)
theorem dX3_nights_212 : decode cX3_nights 212 = .ok (.iaload, 1) := dk_46 (dk_at dksX3_nights_8 21 rfl rfl)
theorem dX3_nights_213 : decode cX3_nights 213 = .ok (.iastore, 1) := dk_79 (dk_at dksX3_nights_8 22 rfl rfl)
theorem dX3_nights_214 : decode cX3_nights 214 = .ok (.aload_n 0, 1) := dk_42 (dk_at dksX3_nights_8 23 rfl rfl)
theorem dX3_nights_215 : decode cX3_nights 215 = .ok (.getfield 99, 3) := dk_180 0 99 (dk_at dksX3_nights_9 0 rfl rfl)
theorem dX3_nights_218 : decode cX3_nights 218 = .ok (.iload_n 3, 1) := dk_29 (dk_at dksX3_nights_9 3 rfl rfl)
theorem dX3_nights_219 : decode cX3_nights 219 = .ok (.aload_n 0, 1) := dk_42 (dk_at dksX3_nights_9 4 rfl rfl)
theorem dX3_nights_220 : decode cX3_nights 220 = .ok (.getfield 111, 3) := dk_180 0 111 (dk_at dksX3_nights_9 5 rfl rfl)
theorem dX3_nights_223 : decode cX3_nights 223 = .ok (.iload_n 2, 1) := dk_28 (dk_at dksX3_nights_9 8 rfl rfl)
theorem dX3_nights_224 : decode cX3_nights 224 = .ok (.iaload, 1) := dk_46 (dk_at dksX3_nights_9 9 rfl rfl)
theorem dX3_nights_225 : decode cX3_nights 225 = .ok (.iload 5, 2) := dk_21 5 (dk_at dksX3_nights_9 10 rfl rfl)
theorem dX3_nights_227 : decode cX3_nights 227 = .ok (.iadd, 1) := dk_96 (dk_at dksX3_nights_9 12 rfl rfl)
theorem dX3_nights_228 : decode cX3_nights 228 = .ok (.iastore, 1) := dk_79 (dk_at dksX3_nights_9 13 rfl rfl)
theorem dX3_nights_229 : decode cX3_nights 229 = .ok (.iload 5, 2) := dk_21 5 (dk_at dksX3_nights_9 14 rfl rfl)
theorem dX3_nights_231 : decode cX3_nights 231 = .ok (.ifCond .le 34, 3) := dk_158 0 34 (dk_at dksX3_nights_9 16 rfl rfl)
theorem dX3_nights_234 : decode cX3_nights 234 = .ok (.aload_n 0, 1) := dk_42 (dk_at dksX3_nights_9 19 rfl rfl)
theorem dX3_nights_235 : decode cX3_nights 235 = .ok (.getfield 102, 3) := dk_180 0 102 (dk_at dksX3_nights_9 20 rfl rfl)
theorem dX3_nights_238 : decode cX3_nights 238 = .ok (.iload 4, 2) := dk_21 4 (dk_at dksX3_nights_10 0 rfl rfl)
theorem dX3_nights_240 : decode cX3_nights 240 = .ok (.iaload, 1) := dk_46 (dk_at dksX3_nights_10 2 rfl rfl)
theorem dX3_nights_241 : decode cX3_nights 241 = .ok (.ifCond .le 24, 3) := dk_158 0 24 (dk_at dksX3_nights_10 3 rfl rfl)
theorem dX3_nights_244 : decode cX3_nights 244 = .ok (.aload_n 0, 1) := dk_42 (dk_at dksX3_nights_10 6 rfl rfl)
theorem dX3_nights_245 : decode cX3_nights 245 = .ok (.getfield 102, 3) := dk_180 0 102 (dk_at dksX3_nights_10 7 rfl rfl)
theorem dX3_nights_248 : decode cX3_nights 248 = .ok (.iload 4, 2) := dk_21 4 (dk_at dksX3_nights_10 10 rfl rfl)
theorem dX3_nights_250 : decode cX3_nights 250 = .ok (.dup2, 1) := dk_92 (dk_at dksX3_nights_10 12 rfl rfl)
theorem dX3_nights_251 : decode cX3_nights 251 = .ok (.iaload, 1) := dk_46 (dk_at dksX3_nights_10 13 rfl rfl)
theorem dX3_nights_252 : decode cX3_nights 252 = .ok (.iconst 1, 1) := dk_4 (dk_at dksX3_nights_10 14 rfl rfl)
theorem dX3_nights_253 : decode cX3_nights 253 = .ok (.isub, 1) := dk_100 (dk_at dksX3_nights_10 15 rfl rfl)
theorem dX3_nights_254 : decode cX3_nights 254 = .ok (.iastore, 1) := dk_79 (dk_at dksX3_nights_10 16 rfl rfl)
theorem dX3_nights_255 : decode cX3_nights 255 = .ok (.aload_n 0, 1) := dk_42 (dk_at dksX3_nights_10 17 rfl rfl)
theorem dX3_nights_256 : decode cX3_nights 256 = .ok (.getfield 105, 3) := dk_180 0 105 (dk_at dksX3_nights_10 18 rfl rfl)
theorem dX3_nights_259 : decode cX3_nights 259 = .ok (.iload_n 2, 1) := dk_28 (dk_at dksX3_nights_10 21 rfl rfl)
theorem dX3_nights_260 : decode cX3_nights 260 = .ok (.dup2, 1) := dk_92 (dk_at dksX3_nights_10 22 rfl rfl)
theorem dX3_nights_261 : decode cX3_nights 261 = .ok (.iaload, 1) := dk_46 (dk_at dksX3_nights_10 23 rfl rfl)
theorem dX3_nights_262 : decode cX3_nights 262 = .ok (.iconst 1, 1) := dk_4 (dk_at dksX3_nights_11 0 rfl rfl)
theorem dX3_nights_263 : decode cX3_nights 263 = .ok (.iadd, 1) := dk_96 (dk_at dksX3_nights_11 1 rfl rfl)
theorem dX3_nights_264 : decode cX3_nights 264 = .ok (.iastore, 1) := dk_79 (dk_at dksX3_nights_11 2 rfl rfl)
theorem dX3_nights_265 : decode cX3_nights 265 = .ok (.aload_n 0, 1) := dk_42 (dk_at dksX3_nights_11 3 rfl rfl)
theorem dX3_nights_266 : decode cX3_nights 266 = .ok (.getfield 108, 3) := dk_180 0 108 (dk_at dksX3_nights_11 4 rfl rfl)
theorem dX3_nights_269 : decode cX3_nights 269 = .ok (.iload_n 2, 1) := dk_28 (dk_at dksX3_nights_11 7 rfl rfl)
theorem dX3_nights_270 : decode cX3_nights 270 = .ok (.dup2, 1) := dk_92 (dk_at dksX3_nights_11 8 rfl rfl)
theorem dX3_nights_271 : decode cX3_nights 271 = .ok (.iaload, 1) := dk_46 (dk_at dksX3_nights_11 9 rfl rfl)
theorem dX3_nights_272 : decode cX3_nights 272 = .ok (.iconst 1, 1) := dk_4 (dk_at dksX3_nights_11 10 rfl rfl)
theorem dX3_nights_273 : decode cX3_nights 273 = .ok (.iadd, 1) := dk_96 (dk_at dksX3_nights_11 11 rfl rfl)
theorem dX3_nights_274 : decode cX3_nights 274 = .ok (.iastore, 1) := dk_79 (dk_at dksX3_nights_11 12 rfl rfl)
theorem dX3_nights_275 : decode cX3_nights 275 = .ok (.aload_n 0, 1) := dk_42 (dk_at dksX3_nights_11 13 rfl rfl)
theorem dX3_nights_276 : decode cX3_nights 276 = .ok (.getfield 108, 3) := dk_180 0 108 (dk_at dksX3_nights_11 14 rfl rfl)
theorem dX3_nights_279 : decode cX3_nights 279 = .ok (.iload_n 2, 1) := dk_28 (dk_at dksX3_nights_11 17 rfl rfl)
theorem dX3_nights_280 : decode cX3_nights 280 = .ok (.iaload, 1) := dk_46 (dk_at dksX3_nights_11 18 rfl rfl)
theorem dX3_nights_281 : decode cX3_nights 281 = .ok (.aload_n 0, 1) := dk_42 (dk_at dksX3_nights_11 19 rfl rfl)
theorem dX3_nights_282 : decode cX3_nights 282 = .ok (.getfield 20, 3) := dk_180 0 20 (dk_at dksX3_nights_11 20 rfl rfl)
theorem dX3_nights_285 : decode cX3_nights 285 = .ok (.iload_n 2, 1) := dk_28 (dk_at dksX3_nights_11 23 rfl rfl)
theorem dX3_nights_286 : decode cX3_nights 286 = .ok (.iaload, 1) := dk_46 (dk_at dksX3_nights_12 0 rfl rfl)
theorem dX3_nights_287 : decode cX3_nights 287 = .ok (.if_icmp .ge 31, 3) := dk_162 0 31 (dk_at dksX3_nights_12 1 rfl rfl)
theorem dX3_nights_290 : decode cX3_nights 290 = .ok (.aload_n 0, 1) := dk_42 (dk_at dksX3_nights_12 4 rfl rfl)
theorem dX3_nights_291 : decode cX3_nights 291 = .ok (.getfield 111, 3) := dk_180 0 111 (dk_at dksX3_nights_12 5 rfl rfl)
theorem dX3_nights_294 : decode cX3_nights 294 = .ok (.iload_n 2, 1) := dk_28 (dk_at dksX3_nights_12 8 rfl rfl)
theorem dX3_nights_295 : decode cX3_nights 295 = .ok (.aload_n 0, 1) := dk_42 (dk_at dksX3_nights_12 9 rfl rfl)
theorem dX3_nights_296 : decode cX3_nights 296 = .ok (.getfield 99, 3) := dk_180 0 99 (dk_at dksX3_nights_12 10 rfl rfl)
theorem dX3_nights_299 : decode cX3_nights 299 = .ok (.iload_n 3, 1) := dk_29 (dk_at dksX3_nights_12 13 rfl rfl)
theorem dX3_nights_300 : decode cX3_nights 300 = .ok (.iaload, 1) := dk_46 (dk_at dksX3_nights_12 14 rfl rfl)
theorem dX3_nights_301 : decode cX3_nights 301 = .ok (.aload_n 0, 1) := dk_42 (dk_at dksX3_nights_12 15 rfl rfl)
theorem dX3_nights_302 : decode cX3_nights 302 = .ok (.iload_n 2, 1) := dk_28 (dk_at dksX3_nights_12 16 rfl rfl)
theorem dX3_nights_303 : decode cX3_nights 303 = .ok (.iload 4, 2) := dk_21 4 (dk_at dksX3_nights_12 17 rfl rfl)
theorem dX3_nights_305 : decode cX3_nights 305 = .ok (.aload_n 0, 1) := dk_42 (dk_at dksX3_nights_12 19 rfl rfl)
theorem dX3_nights_306 : decode cX3_nights 306 = .ok (.getfield 23, 3) := dk_180 0 23 (dk_at dksX3_nights_12 20 rfl rfl)
theorem dX3_nights_309 : decode cX3_nights 309 = .ok (.iload_n 3, 1) := dk_29 (dk_at dksX3_nights_12 23 rfl rfl)
theorem dX3_nights_310 : decode cX3_nights 310 = .ok (.iconst 1, 1) := dk_4 (dk_at dksX3_nights_13 0 rfl rfl)
theorem dX3_nights_311 : decode cX3_nights 311 = .ok (.iadd, 1) := dk_96 (dk_at dksX3_nights_13 1 rfl rfl)
theorem dX3_nights_312 : decode cX3_nights 312 = .ok (.iaload, 1) := dk_46 (dk_at dksX3_nights_13 2 rfl rfl)
theorem dX3_nights_313 : decode cX3_nights 313 = .ok (.invokevirtual 362, 3) := dk_182 1 106 (dk_at dksX3_nights_13 3 rfl rfl)
theorem dX3_nights_316 : decode cX3_nights 316 = .ok (.iadd, 1) := dk_96 (dk_at dksX3_nights_13 6 rfl rfl)
theorem dX3_nights_317 : decode cX3_nights 317 = .ok (.iastore, 1) := dk_79 (dk_at dksX3_nights_13 7 rfl rfl)
theorem dX3_nights_318 : decode cX3_nights 318 = .ok (.goto (-222), 3) := dk_167 255 34 (dk_at dksX3_nights_13 8 rfl rfl)
theorem dX3_nights_321 : decode cX3_nights 321 = .ok (.return_, 1) := dk_177 (dk_at dksX3_nights_13 11 rfl rfl)
abbrev cX3_nests : ByteArray := prog_14_method_47_code
def yX3_nests : MethodName := ⟨RX3, "nests", "(I)Z"⟩
def dkwX3_nests_0 : List UInt8 := [42, 180, 0, 78, 6, 46, 27, 122, 4, 126, 4, 160, 0, 7, 4, 167, 0, 4, 3, 172]
abbrev dktX3_nests_0 : List UInt8 := dkwX3_nests_0 ++ []
theorem dksX3_nests_0 : cX3_nests.data.toList.drop 0 = dktX3_nests_0 := by decide +kernel
theorem dX3_nests_0 : decode cX3_nests 0 = .ok (.aload_n 0, 1) := dk_42 (dk_at dksX3_nests_0 0 rfl rfl)
theorem dX3_nests_1 : decode cX3_nests 1 = .ok (.getfield 78, 3) := dk_180 0 78 (dk_at dksX3_nests_0 1 rfl rfl)
theorem dX3_nests_4 : decode cX3_nests 4 = .ok (.iconst 3, 1) := dk_6 (dk_at dksX3_nests_0 4 rfl rfl)
theorem dX3_nests_5 : decode cX3_nests 5 = .ok (.iaload, 1) := dk_46 (dk_at dksX3_nests_0 5 rfl rfl)
theorem dX3_nests_6 : decode cX3_nests 6 = .ok (.iload_n 1, 1) := dk_27 (dk_at dksX3_nests_0 6 rfl rfl)
theorem dX3_nests_7 : decode cX3_nests 7 = .ok (.ishr, 1) := dk_122 (dk_at dksX3_nests_0 7 rfl rfl)
theorem dX3_nests_8 : decode cX3_nests 8 = .ok (.iconst 1, 1) := dk_4 (dk_at dksX3_nests_0 8 rfl rfl)
theorem dX3_nests_9 : decode cX3_nests 9 = .ok (.iand, 1) := dk_126 (dk_at dksX3_nests_0 9 rfl rfl)
theorem dX3_nests_10 : decode cX3_nests 10 = .ok (.iconst 1, 1) := dk_4 (dk_at dksX3_nests_0 10 rfl rfl)
theorem dX3_nests_11 : decode cX3_nests 11 = .ok (.if_icmp .ne 7, 3) := dk_160 0 7 (dk_at dksX3_nests_0 11 rfl rfl)
theorem dX3_nests_14 : decode cX3_nests 14 = .ok (.iconst 1, 1) := dk_4 (dk_at dksX3_nests_0 14 rfl rfl)
theorem dX3_nests_15 : decode cX3_nests 15 = .ok (.goto 4, 3) := dk_167 0 4 (dk_at dksX3_nests_0 15 rfl rfl)
theorem dX3_nests_18 : decode cX3_nests 18 = .ok (.iconst 0, 1) := dk_3 (dk_at dksX3_nests_0 18 rfl rfl)
theorem dX3_nests_19 : decode cX3_nests 19 = .ok (.ireturn, 1) := dk_172 (dk_at dksX3_nests_0 19 rfl rfl)
abbrev cX3_huntsFor : ByteArray := prog_14_method_48_code
def yX3_huntsFor : MethodName := ⟨RX3, "huntsFor", "(II)I"⟩
def dkwX3_huntsFor_6 : List UInt8 := [16, 30, 164, 0, 8, 16, 30, 167, 0, 4, 29, 172]
abbrev dktX3_huntsFor_6 : List UInt8 := dkwX3_huntsFor_6 ++ []
def dkwX3_huntsFor_5 : List UInt8 := [180, 0, 29, 42, 180, 0, 78, 3, 46, 46, 182, 1, 97, 62, 29, 156, 0, 7, 3, 167, 0, 15, 29]
abbrev dktX3_huntsFor_5 : List UInt8 := dkwX3_huntsFor_5 ++ dktX3_huntsFor_6
def dkwX3_huntsFor_4 : List UInt8 := [180, 0, 78, 5, 46, 79, 42, 180, 0, 90, 16, 6, 42, 180, 0, 111, 27, 46, 16, 60, 108, 79, 42, 42]
abbrev dktX3_huntsFor_4 : List UInt8 := dkwX3_huntsFor_4 ++ dktX3_huntsFor_5
def dkwX3_huntsFor_3 : List UInt8 := [180, 0, 108, 27, 46, 79, 42, 180, 0, 90, 7, 42, 180, 0, 78, 4, 46, 79, 42, 180, 0, 90, 8, 42]
abbrev dktX3_huntsFor_3 : List UInt8 := dkwX3_huntsFor_3 ++ dktX3_huntsFor_4
def dkwX3_huntsFor_2 : List UInt8 := [7, 28, 96, 46, 79, 42, 180, 0, 90, 5, 42, 180, 0, 17, 27, 46, 79, 42, 180, 0, 90, 6, 42]
abbrev dktX3_huntsFor_2 : List UInt8 := dkwX3_huntsFor_2 ++ dktX3_huntsFor_3
def dkwX3_huntsFor_1 : List UInt8 := [159, 0, 109, 42, 180, 0, 90, 3, 42, 180, 0, 102, 28, 46, 79, 42, 180, 0, 90, 4, 42, 180, 0, 78]
abbrev dktX3_huntsFor_1 : List UInt8 := dkwX3_huntsFor_1 ++ dktX3_huntsFor_2
def dkwX3_huntsFor_0 : List UInt8 := [42, 180, 0, 102, 28, 46, 158, 0, 7, 6, 167, 0, 4, 5, 62, 42, 180, 0, 78, 3, 46, 2]
abbrev dktX3_huntsFor_0 : List UInt8 := dkwX3_huntsFor_0 ++ dktX3_huntsFor_1
theorem dksX3_huntsFor_0 : cX3_huntsFor.data.toList.drop 0 = dktX3_huntsFor_0 := by decide +kernel
theorem dksX3_huntsFor_1 : cX3_huntsFor.data.toList.drop 22 = dktX3_huntsFor_1 := dk_seg dksX3_huntsFor_0 22 rfl rfl
theorem dksX3_huntsFor_2 : cX3_huntsFor.data.toList.drop 46 = dktX3_huntsFor_2 := dk_seg dksX3_huntsFor_1 24 rfl rfl
theorem dksX3_huntsFor_3 : cX3_huntsFor.data.toList.drop 69 = dktX3_huntsFor_3 := dk_seg dksX3_huntsFor_2 23 rfl rfl
theorem dksX3_huntsFor_4 : cX3_huntsFor.data.toList.drop 93 = dktX3_huntsFor_4 := dk_seg dksX3_huntsFor_3 24 rfl rfl
theorem dksX3_huntsFor_5 : cX3_huntsFor.data.toList.drop 117 = dktX3_huntsFor_5 := dk_seg dksX3_huntsFor_4 24 rfl rfl
theorem dksX3_huntsFor_6 : cX3_huntsFor.data.toList.drop 140 = dktX3_huntsFor_6 := dk_seg dksX3_huntsFor_5 23 rfl rfl
theorem dX3_huntsFor_0 : decode cX3_huntsFor 0 = .ok (.aload_n 0, 1) := dk_42 (dk_at dksX3_huntsFor_0 0 rfl rfl)
theorem dX3_huntsFor_1 : decode cX3_huntsFor 1 = .ok (.getfield 102, 3) := dk_180 0 102 (dk_at dksX3_huntsFor_0 1 rfl rfl)
theorem dX3_huntsFor_4 : decode cX3_huntsFor 4 = .ok (.iload_n 2, 1) := dk_28 (dk_at dksX3_huntsFor_0 4 rfl rfl)
theorem dX3_huntsFor_5 : decode cX3_huntsFor 5 = .ok (.iaload, 1) := dk_46 (dk_at dksX3_huntsFor_0 5 rfl rfl)
theorem dX3_huntsFor_6 : decode cX3_huntsFor 6 = .ok (.ifCond .le 7, 3) := dk_158 0 7 (dk_at dksX3_huntsFor_0 6 rfl rfl)
theorem dX3_huntsFor_9 : decode cX3_huntsFor 9 = .ok (.iconst 3, 1) := dk_6 (dk_at dksX3_huntsFor_0 9 rfl rfl)
theorem dX3_huntsFor_10 : decode cX3_huntsFor 10 = .ok (.goto 4, 3) := dk_167 0 4 (dk_at dksX3_huntsFor_0 10 rfl rfl)
theorem dX3_huntsFor_13 : decode cX3_huntsFor 13 = .ok (.iconst 2, 1) := dk_5 (dk_at dksX3_huntsFor_0 13 rfl rfl)
theorem dX3_huntsFor_14 : decode cX3_huntsFor 14 = .ok (.istore_n 3, 1) := dk_62 (dk_at dksX3_huntsFor_0 14 rfl rfl)
theorem dX3_huntsFor_15 : decode cX3_huntsFor 15 = .ok (.aload_n 0, 1) := dk_42 (dk_at dksX3_huntsFor_0 15 rfl rfl)
theorem dX3_huntsFor_16 : decode cX3_huntsFor 16 = .ok (.getfield 78, 3) := dk_180 0 78 (dk_at dksX3_huntsFor_0 16 rfl rfl)
theorem dX3_huntsFor_19 : decode cX3_huntsFor 19 = .ok (.iconst 0, 1) := dk_3 (dk_at dksX3_huntsFor_0 19 rfl rfl)
theorem dX3_huntsFor_20 : decode cX3_huntsFor 20 = .ok (.iaload, 1) := dk_46 (dk_at dksX3_huntsFor_0 20 rfl rfl)
theorem dX3_huntsFor_21 : decode cX3_huntsFor 21 = .ok (.iconst (-1), 1) := dk_2 (dk_at dksX3_huntsFor_0 21 rfl rfl)
theorem dX3_huntsFor_22 : decode cX3_huntsFor 22 = .ok (.if_icmp .eq 109, 3) := dk_159 0 109 (dk_at dksX3_huntsFor_1 0 rfl rfl)
theorem dX3_huntsFor_25 : decode cX3_huntsFor 25 = .ok (.aload_n 0, 1) := dk_42 (dk_at dksX3_huntsFor_1 3 rfl rfl)
theorem dX3_huntsFor_26 : decode cX3_huntsFor 26 = .ok (.getfield 90, 3) := dk_180 0 90 (dk_at dksX3_huntsFor_1 4 rfl rfl)
theorem dX3_huntsFor_29 : decode cX3_huntsFor 29 = .ok (.iconst 0, 1) := dk_3 (dk_at dksX3_huntsFor_1 7 rfl rfl)
theorem dX3_huntsFor_30 : decode cX3_huntsFor 30 = .ok (.aload_n 0, 1) := dk_42 (dk_at dksX3_huntsFor_1 8 rfl rfl)
theorem dX3_huntsFor_31 : decode cX3_huntsFor 31 = .ok (.getfield 102, 3) := dk_180 0 102 (dk_at dksX3_huntsFor_1 9 rfl rfl)
theorem dX3_huntsFor_34 : decode cX3_huntsFor 34 = .ok (.iload_n 2, 1) := dk_28 (dk_at dksX3_huntsFor_1 12 rfl rfl)
theorem dX3_huntsFor_35 : decode cX3_huntsFor 35 = .ok (.iaload, 1) := dk_46 (dk_at dksX3_huntsFor_1 13 rfl rfl)
theorem dX3_huntsFor_36 : decode cX3_huntsFor 36 = .ok (.iastore, 1) := dk_79 (dk_at dksX3_huntsFor_1 14 rfl rfl)
theorem dX3_huntsFor_37 : decode cX3_huntsFor 37 = .ok (.aload_n 0, 1) := dk_42 (dk_at dksX3_huntsFor_1 15 rfl rfl)
theorem dX3_huntsFor_38 : decode cX3_huntsFor 38 = .ok (.getfield 90, 3) := dk_180 0 90 (dk_at dksX3_huntsFor_1 16 rfl rfl)
theorem dX3_huntsFor_41 : decode cX3_huntsFor 41 = .ok (.iconst 1, 1) := dk_4 (dk_at dksX3_huntsFor_1 19 rfl rfl)
theorem dX3_huntsFor_42 : decode cX3_huntsFor 42 = .ok (.aload_n 0, 1) := dk_42 (dk_at dksX3_huntsFor_1 20 rfl rfl)
theorem dX3_huntsFor_43 : decode cX3_huntsFor 43 = .ok (.getfield 78, 3) := dk_180 0 78 (dk_at dksX3_huntsFor_1 21 rfl rfl)
theorem dX3_huntsFor_46 : decode cX3_huntsFor 46 = .ok (.iconst 4, 1) := dk_7 (dk_at dksX3_huntsFor_2 0 rfl rfl)
theorem dX3_huntsFor_47 : decode cX3_huntsFor 47 = .ok (.iload_n 2, 1) := dk_28 (dk_at dksX3_huntsFor_2 1 rfl rfl)
theorem dX3_huntsFor_48 : decode cX3_huntsFor 48 = .ok (.iadd, 1) := dk_96 (dk_at dksX3_huntsFor_2 2 rfl rfl)
theorem dX3_huntsFor_49 : decode cX3_huntsFor 49 = .ok (.iaload, 1) := dk_46 (dk_at dksX3_huntsFor_2 3 rfl rfl)
theorem dX3_huntsFor_50 : decode cX3_huntsFor 50 = .ok (.iastore, 1) := dk_79 (dk_at dksX3_huntsFor_2 4 rfl rfl)
theorem dX3_huntsFor_51 : decode cX3_huntsFor 51 = .ok (.aload_n 0, 1) := dk_42 (dk_at dksX3_huntsFor_2 5 rfl rfl)
theorem dX3_huntsFor_52 : decode cX3_huntsFor 52 = .ok (.getfield 90, 3) := dk_180 0 90 (dk_at dksX3_huntsFor_2 6 rfl rfl)
theorem dX3_huntsFor_55 : decode cX3_huntsFor 55 = .ok (.iconst 2, 1) := dk_5 (dk_at dksX3_huntsFor_2 9 rfl rfl)
theorem dX3_huntsFor_56 : decode cX3_huntsFor 56 = .ok (.aload_n 0, 1) := dk_42 (dk_at dksX3_huntsFor_2 10 rfl rfl)
theorem dX3_huntsFor_57 : decode cX3_huntsFor 57 = .ok (.getfield 17, 3) := dk_180 0 17 (dk_at dksX3_huntsFor_2 11 rfl rfl)
theorem dX3_huntsFor_60 : decode cX3_huntsFor 60 = .ok (.iload_n 1, 1) := dk_27 (dk_at dksX3_huntsFor_2 14 rfl rfl)
theorem dX3_huntsFor_61 : decode cX3_huntsFor 61 = .ok (.iaload, 1) := dk_46 (dk_at dksX3_huntsFor_2 15 rfl rfl)
theorem dX3_huntsFor_62 : decode cX3_huntsFor 62 = .ok (.iastore, 1) := dk_79 (dk_at dksX3_huntsFor_2 16 rfl rfl)
theorem dX3_huntsFor_63 : decode cX3_huntsFor 63 = .ok (.aload_n 0, 1) := dk_42 (dk_at dksX3_huntsFor_2 17 rfl rfl)
theorem dX3_huntsFor_64 : decode cX3_huntsFor 64 = .ok (.getfield 90, 3) := dk_180 0 90 (dk_at dksX3_huntsFor_2 18 rfl rfl)
theorem dX3_huntsFor_67 : decode cX3_huntsFor 67 = .ok (.iconst 3, 1) := dk_6 (dk_at dksX3_huntsFor_2 21 rfl rfl)
theorem dX3_huntsFor_68 : decode cX3_huntsFor 68 = .ok (.aload_n 0, 1) := dk_42 (dk_at dksX3_huntsFor_2 22 rfl rfl)
theorem dX3_huntsFor_69 : decode cX3_huntsFor 69 = .ok (.getfield 108, 3) := dk_180 0 108 (dk_at dksX3_huntsFor_3 0 rfl rfl)
theorem dX3_huntsFor_72 : decode cX3_huntsFor 72 = .ok (.iload_n 1, 1) := dk_27 (dk_at dksX3_huntsFor_3 3 rfl rfl)
theorem dX3_huntsFor_73 : decode cX3_huntsFor 73 = .ok (.iaload, 1) := dk_46 (dk_at dksX3_huntsFor_3 4 rfl rfl)
theorem dX3_huntsFor_74 : decode cX3_huntsFor 74 = .ok (.iastore, 1) := dk_79 (dk_at dksX3_huntsFor_3 5 rfl rfl)
theorem dX3_huntsFor_75 : decode cX3_huntsFor 75 = .ok (.aload_n 0, 1) := dk_42 (dk_at dksX3_huntsFor_3 6 rfl rfl)
theorem dX3_huntsFor_76 : decode cX3_huntsFor 76 = .ok (.getfield 90, 3) := dk_180 0 90 (dk_at dksX3_huntsFor_3 7 rfl rfl)
theorem dX3_huntsFor_79 : decode cX3_huntsFor 79 = .ok (.iconst 4, 1) := dk_7 (dk_at dksX3_huntsFor_3 10 rfl rfl)
theorem dX3_huntsFor_80 : decode cX3_huntsFor 80 = .ok (.aload_n 0, 1) := dk_42 (dk_at dksX3_huntsFor_3 11 rfl rfl)
theorem dX3_huntsFor_81 : decode cX3_huntsFor 81 = .ok (.getfield 78, 3) := dk_180 0 78 (dk_at dksX3_huntsFor_3 12 rfl rfl)
theorem dX3_huntsFor_84 : decode cX3_huntsFor 84 = .ok (.iconst 1, 1) := dk_4 (dk_at dksX3_huntsFor_3 15 rfl rfl)
theorem dX3_huntsFor_85 : decode cX3_huntsFor 85 = .ok (.iaload, 1) := dk_46 (dk_at dksX3_huntsFor_3 16 rfl rfl)
theorem dX3_huntsFor_86 : decode cX3_huntsFor 86 = .ok (.iastore, 1) := dk_79 (dk_at dksX3_huntsFor_3 17 rfl rfl)
theorem dX3_huntsFor_87 : decode cX3_huntsFor 87 = .ok (.aload_n 0, 1) := dk_42 (dk_at dksX3_huntsFor_3 18 rfl rfl)
theorem dX3_huntsFor_88 : decode cX3_huntsFor 88 = .ok (.getfield 90, 3) := dk_180 0 90 (dk_at dksX3_huntsFor_3 19 rfl rfl)
theorem dX3_huntsFor_91 : decode cX3_huntsFor 91 = .ok (.iconst 5, 1) := dk_8 (dk_at dksX3_huntsFor_3 22 rfl rfl)
theorem dX3_huntsFor_92 : decode cX3_huntsFor 92 = .ok (.aload_n 0, 1) := dk_42 (dk_at dksX3_huntsFor_3 23 rfl rfl)
theorem dX3_huntsFor_93 : decode cX3_huntsFor 93 = .ok (.getfield 78, 3) := dk_180 0 78 (dk_at dksX3_huntsFor_4 0 rfl rfl)
theorem dX3_huntsFor_96 : decode cX3_huntsFor 96 = .ok (.iconst 2, 1) := dk_5 (dk_at dksX3_huntsFor_4 3 rfl rfl)
theorem dX3_huntsFor_97 : decode cX3_huntsFor 97 = .ok (.iaload, 1) := dk_46 (dk_at dksX3_huntsFor_4 4 rfl rfl)
theorem dX3_huntsFor_98 : decode cX3_huntsFor 98 = .ok (.iastore, 1) := dk_79 (dk_at dksX3_huntsFor_4 5 rfl rfl)
theorem dX3_huntsFor_99 : decode cX3_huntsFor 99 = .ok (.aload_n 0, 1) := dk_42 (dk_at dksX3_huntsFor_4 6 rfl rfl)
theorem dX3_huntsFor_100 : decode cX3_huntsFor 100 = .ok (.getfield 90, 3) := dk_180 0 90 (dk_at dksX3_huntsFor_4 7 rfl rfl)
theorem dX3_huntsFor_103 : decode cX3_huntsFor 103 = .ok (.bipush 6, 2) := dk_16 6 (dk_at dksX3_huntsFor_4 10 rfl rfl)
theorem dX3_huntsFor_105 : decode cX3_huntsFor 105 = .ok (.aload_n 0, 1) := dk_42 (dk_at dksX3_huntsFor_4 12 rfl rfl)
theorem dX3_huntsFor_106 : decode cX3_huntsFor 106 = .ok (.getfield 111, 3) := dk_180 0 111 (dk_at dksX3_huntsFor_4 13 rfl rfl)
theorem dX3_huntsFor_109 : decode cX3_huntsFor 109 = .ok (.iload_n 1, 1) := dk_27 (dk_at dksX3_huntsFor_4 16 rfl rfl)
theorem dX3_huntsFor_110 : decode cX3_huntsFor 110 = .ok (.iaload, 1) := dk_46 (dk_at dksX3_huntsFor_4 17 rfl rfl)
theorem dX3_huntsFor_111 : decode cX3_huntsFor 111 = .ok (.bipush 60, 2) := dk_16 60 (dk_at dksX3_huntsFor_4 18 rfl rfl)
theorem dX3_huntsFor_113 : decode cX3_huntsFor 113 = .ok (.idiv, 1) := dk_108 (dk_at dksX3_huntsFor_4 20 rfl rfl)
theorem dX3_huntsFor_114 : decode cX3_huntsFor 114 = .ok (.iastore, 1) := dk_79 (dk_at dksX3_huntsFor_4 21 rfl rfl)
theorem dX3_huntsFor_115 : decode cX3_huntsFor 115 = .ok (.aload_n 0, 1) := dk_42 (dk_at dksX3_huntsFor_4 22 rfl rfl)
theorem dX3_huntsFor_116 : decode cX3_huntsFor 116 = .ok (.aload_n 0, 1) := dk_42 (dk_at dksX3_huntsFor_4 23 rfl rfl)
theorem dX3_huntsFor_117 : decode cX3_huntsFor 117 = .ok (.getfield 29, 3) := dk_180 0 29 (dk_at dksX3_huntsFor_5 0 rfl rfl)
theorem dX3_huntsFor_120 : decode cX3_huntsFor 120 = .ok (.aload_n 0, 1) := dk_42 (dk_at dksX3_huntsFor_5 3 rfl rfl)
theorem dX3_huntsFor_121 : decode cX3_huntsFor 121 = .ok (.getfield 78, 3) := dk_180 0 78 (dk_at dksX3_huntsFor_5 4 rfl rfl)
theorem dX3_huntsFor_124 : decode cX3_huntsFor 124 = .ok (.iconst 0, 1) := dk_3 (dk_at dksX3_huntsFor_5 7 rfl rfl)
theorem dX3_huntsFor_125 : decode cX3_huntsFor 125 = .ok (.iaload, 1) := dk_46 (dk_at dksX3_huntsFor_5 8 rfl rfl)
theorem dX3_huntsFor_126 : decode cX3_huntsFor 126 = .ok (.iaload, 1) := dk_46 (dk_at dksX3_huntsFor_5 9 rfl rfl)
theorem dX3_huntsFor_127 : decode cX3_huntsFor 127 = .ok (.invokevirtual 353, 3) := dk_182 1 97 (dk_at dksX3_huntsFor_5 10 rfl rfl)
theorem dX3_huntsFor_130 : decode cX3_huntsFor 130 = .ok (.istore_n 3, 1) := dk_62 (dk_at dksX3_huntsFor_5 13 rfl rfl)
theorem dX3_huntsFor_131 : decode cX3_huntsFor 131 = .ok (.iload_n 3, 1) := dk_29 (dk_at dksX3_huntsFor_5 14 rfl rfl)
theorem dX3_huntsFor_132 : decode cX3_huntsFor 132 = .ok (.ifCond .ge 7, 3) := dk_156 0 7 (dk_at dksX3_huntsFor_5 15 rfl rfl)
theorem dX3_huntsFor_135 : decode cX3_huntsFor 135 = .ok (.iconst 0, 1) := dk_3 (dk_at dksX3_huntsFor_5 18 rfl rfl)
theorem dX3_huntsFor_136 : decode cX3_huntsFor 136 = .ok (.goto 15, 3) := dk_167 0 15 (dk_at dksX3_huntsFor_5 19 rfl rfl)
theorem dX3_huntsFor_139 : decode cX3_huntsFor 139 = .ok (.iload_n 3, 1) := dk_29 (dk_at dksX3_huntsFor_5 22 rfl rfl)
theorem dX3_huntsFor_140 : decode cX3_huntsFor 140 = .ok (.bipush 30, 2) := dk_16 30 (dk_at dksX3_huntsFor_6 0 rfl rfl)
theorem dX3_huntsFor_142 : decode cX3_huntsFor 142 = .ok (.if_icmp .le 8, 3) := dk_164 0 8 (dk_at dksX3_huntsFor_6 2 rfl rfl)
theorem dX3_huntsFor_145 : decode cX3_huntsFor 145 = .ok (.bipush 30, 2) := dk_16 30 (dk_at dksX3_huntsFor_6 5 rfl rfl)
theorem dX3_huntsFor_147 : decode cX3_huntsFor 147 = .ok (.goto 4, 3) := dk_167 0 4 (dk_at dksX3_huntsFor_6 7 rfl rfl)
theorem dX3_huntsFor_150 : decode cX3_huntsFor 150 = .ok (.iload_n 3, 1) := dk_29 (dk_at dksX3_huntsFor_6 10 rfl rfl)
theorem dX3_huntsFor_151 : decode cX3_huntsFor 151 = .ok (.ireturn, 1) := dk_172 (dk_at dksX3_huntsFor_6 11 rfl rfl)
abbrev cX3_reckons : ByteArray := prog_14_method_46_code
def yX3_reckons : MethodName := ⟨RX3, "reckons", "(I)I"⟩
def dkwX3_reckons_6 : List UInt8 := [42, 180, 0, 93, 3, 46, 172]
abbrev dktX3_reckons_6 : List UInt8 := dkwX3_reckons_6 ++ []
def dkwX3_reckons_5 : List UInt8 := [100, 21, 4, 42, 180, 0, 93, 28, 4, 100, 46, 42, 180, 0, 93, 28, 46, 184, 1, 93, 79, 167, 255, 120]
abbrev dktX3_reckons_5 : List UInt8 := dkwX3_reckons_5 ++ dktX3_reckons_6
def dkwX3_reckons_4 : List UInt8 := [4, 100, 46, 154, 0, 7, 4, 167, 0, 4, 3, 79, 167, 0, 33, 132, 2, 255, 42, 180, 0, 93, 28, 4]
abbrev dktX3_reckons_4 : List UInt8 := dkwX3_reckons_4 ++ dktX3_reckons_5
def dkwX3_reckons_3 : List UInt8 := [132, 2, 1, 167, 0, 66, 21, 4, 6, 160, 0, 30, 42, 180, 0, 93, 28, 4, 100, 42, 180, 0, 93, 28]
abbrev dktX3_reckons_3 : List UInt8 := dkwX3_reckons_3 ++ dktX3_reckons_4
def dkwX3_reckons_2 : List UInt8 := [180, 0, 32, 29, 46, 167, 0, 14, 42, 180, 0, 90, 42, 180, 0, 32, 29, 46, 46, 79, 132, 3, 1]
abbrev dktX3_reckons_2 : List UInt8 := dkwX3_reckons_2 ++ dktX3_reckons_3
def dkwX3_reckons_1 : List UInt8 := [21, 4, 4, 159, 0, 9, 21, 4, 5, 160, 0, 44, 42, 180, 0, 93, 28, 21, 4, 4, 160, 0, 12, 42]
abbrev dktX3_reckons_1 : List UInt8 := dkwX3_reckons_1 ++ dktX3_reckons_2
def dkwX3_reckons_0 : List UInt8 := [3, 61, 27, 62, 42, 180, 0, 32, 29, 46, 153, 0, 133, 42, 180, 0, 32, 29, 46, 54, 4, 132, 3, 1]
abbrev dktX3_reckons_0 : List UInt8 := dkwX3_reckons_0 ++ dktX3_reckons_1
theorem dksX3_reckons_0 : cX3_reckons.data.toList.drop 0 = dktX3_reckons_0 := by decide +kernel
theorem dksX3_reckons_1 : cX3_reckons.data.toList.drop 24 = dktX3_reckons_1 := dk_seg dksX3_reckons_0 24 rfl rfl
theorem dksX3_reckons_2 : cX3_reckons.data.toList.drop 48 = dktX3_reckons_2 := dk_seg dksX3_reckons_1 24 rfl rfl
theorem dksX3_reckons_3 : cX3_reckons.data.toList.drop 71 = dktX3_reckons_3 := dk_seg dksX3_reckons_2 23 rfl rfl
theorem dksX3_reckons_4 : cX3_reckons.data.toList.drop 95 = dktX3_reckons_4 := dk_seg dksX3_reckons_3 24 rfl rfl
theorem dksX3_reckons_5 : cX3_reckons.data.toList.drop 119 = dktX3_reckons_5 := dk_seg dksX3_reckons_4 24 rfl rfl
theorem dksX3_reckons_6 : cX3_reckons.data.toList.drop 143 = dktX3_reckons_6 := dk_seg dksX3_reckons_5 24 rfl rfl
theorem dX3_reckons_0 : decode cX3_reckons 0 = .ok (.iconst 0, 1) := dk_3 (dk_at dksX3_reckons_0 0 rfl rfl)
theorem dX3_reckons_1 : decode cX3_reckons 1 = .ok (.istore_n 2, 1) := dk_61 (dk_at dksX3_reckons_0 1 rfl rfl)
theorem dX3_reckons_2 : decode cX3_reckons 2 = .ok (.iload_n 1, 1) := dk_27 (dk_at dksX3_reckons_0 2 rfl rfl)
theorem dX3_reckons_3 : decode cX3_reckons 3 = .ok (.istore_n 3, 1) := dk_62 (dk_at dksX3_reckons_0 3 rfl rfl)
theorem dX3_reckons_4 : decode cX3_reckons 4 = .ok (.aload_n 0, 1) := dk_42 (dk_at dksX3_reckons_0 4 rfl rfl)
theorem dX3_reckons_5 : decode cX3_reckons 5 = .ok (.getfield 32, 3) := dk_180 0 32 (dk_at dksX3_reckons_0 5 rfl rfl)
theorem dX3_reckons_8 : decode cX3_reckons 8 = .ok (.iload_n 3, 1) := dk_29 (dk_at dksX3_reckons_0 8 rfl rfl)
theorem dX3_reckons_9 : decode cX3_reckons 9 = .ok (.iaload, 1) := dk_46 (dk_at dksX3_reckons_0 9 rfl rfl)
theorem dX3_reckons_10 : decode cX3_reckons 10 = .ok (.ifCond .eq 133, 3) := dk_153 0 133 (dk_at dksX3_reckons_0 10 rfl rfl)
theorem dX3_reckons_13 : decode cX3_reckons 13 = .ok (.aload_n 0, 1) := dk_42 (dk_at dksX3_reckons_0 13 rfl rfl)
theorem dX3_reckons_14 : decode cX3_reckons 14 = .ok (.getfield 32, 3) := dk_180 0 32 (dk_at dksX3_reckons_0 14 rfl rfl)
theorem dX3_reckons_17 : decode cX3_reckons 17 = .ok (.iload_n 3, 1) := dk_29 (dk_at dksX3_reckons_0 17 rfl rfl)
theorem dX3_reckons_18 : decode cX3_reckons 18 = .ok (.iaload, 1) := dk_46 (dk_at dksX3_reckons_0 18 rfl rfl)
theorem dX3_reckons_19 : decode cX3_reckons 19 = .ok (.istore 4, 2) := dk_54 4 (dk_at dksX3_reckons_0 19 rfl rfl)
theorem dX3_reckons_21 : decode cX3_reckons 21 = .ok (.iinc 3 1, 3) := dk_132 3 1 (dk_at dksX3_reckons_0 21 rfl rfl)
theorem dX3_reckons_24 : decode cX3_reckons 24 = .ok (.iload 4, 2) := dk_21 4 (dk_at dksX3_reckons_1 0 rfl rfl)
theorem dX3_reckons_26 : decode cX3_reckons 26 = .ok (.iconst 1, 1) := dk_4 (dk_at dksX3_reckons_1 2 rfl rfl)
theorem dX3_reckons_27 : decode cX3_reckons 27 = .ok (.if_icmp .eq 9, 3) := dk_159 0 9 (dk_at dksX3_reckons_1 3 rfl rfl)
theorem dX3_reckons_30 : decode cX3_reckons 30 = .ok (.iload 4, 2) := dk_21 4 (dk_at dksX3_reckons_1 6 rfl rfl)
theorem dX3_reckons_32 : decode cX3_reckons 32 = .ok (.iconst 2, 1) := dk_5 (dk_at dksX3_reckons_1 8 rfl rfl)
theorem dX3_reckons_33 : decode cX3_reckons 33 = .ok (.if_icmp .ne 44, 3) := dk_160 0 44 (dk_at dksX3_reckons_1 9 rfl rfl)
theorem dX3_reckons_36 : decode cX3_reckons 36 = .ok (.aload_n 0, 1) := dk_42 (dk_at dksX3_reckons_1 12 rfl rfl)
theorem dX3_reckons_37 : decode cX3_reckons 37 = .ok (.getfield 93, 3) := dk_180 0 93 (dk_at dksX3_reckons_1 13 rfl rfl)
theorem dX3_reckons_40 : decode cX3_reckons 40 = .ok (.iload_n 2, 1) := dk_28 (dk_at dksX3_reckons_1 16 rfl rfl)
theorem dX3_reckons_41 : decode cX3_reckons 41 = .ok (.iload 4, 2) := dk_21 4 (dk_at dksX3_reckons_1 17 rfl rfl)
theorem dX3_reckons_43 : decode cX3_reckons 43 = .ok (.iconst 1, 1) := dk_4 (dk_at dksX3_reckons_1 19 rfl rfl)
theorem dX3_reckons_44 : decode cX3_reckons 44 = .ok (.if_icmp .ne 12, 3) := dk_160 0 12 (dk_at dksX3_reckons_1 20 rfl rfl)
theorem dX3_reckons_47 : decode cX3_reckons 47 = .ok (.aload_n 0, 1) := dk_42 (dk_at dksX3_reckons_1 23 rfl rfl)
theorem dX3_reckons_48 : decode cX3_reckons 48 = .ok (.getfield 32, 3) := dk_180 0 32 (dk_at dksX3_reckons_2 0 rfl rfl)
theorem dX3_reckons_51 : decode cX3_reckons 51 = .ok (.iload_n 3, 1) := dk_29 (dk_at dksX3_reckons_2 3 rfl rfl)
theorem dX3_reckons_52 : decode cX3_reckons 52 = .ok (.iaload, 1) := dk_46 (dk_at dksX3_reckons_2 4 rfl rfl)
theorem dX3_reckons_53 : decode cX3_reckons 53 = .ok (.goto 14, 3) := dk_167 0 14 (dk_at dksX3_reckons_2 5 rfl rfl)
theorem dX3_reckons_56 : decode cX3_reckons 56 = .ok (.aload_n 0, 1) := dk_42 (dk_at dksX3_reckons_2 8 rfl rfl)
theorem dX3_reckons_57 : decode cX3_reckons 57 = .ok (.getfield 90, 3) := dk_180 0 90 (dk_at dksX3_reckons_2 9 rfl rfl)
theorem dX3_reckons_60 : decode cX3_reckons 60 = .ok (.aload_n 0, 1) := dk_42 (dk_at dksX3_reckons_2 12 rfl rfl)
theorem dX3_reckons_61 : decode cX3_reckons 61 = .ok (.getfield 32, 3) := dk_180 0 32 (dk_at dksX3_reckons_2 13 rfl rfl)
theorem dX3_reckons_64 : decode cX3_reckons 64 = .ok (.iload_n 3, 1) := dk_29 (dk_at dksX3_reckons_2 16 rfl rfl)
theorem dX3_reckons_65 : decode cX3_reckons 65 = .ok (.iaload, 1) := dk_46 (dk_at dksX3_reckons_2 17 rfl rfl)
theorem dX3_reckons_66 : decode cX3_reckons 66 = .ok (.iaload, 1) := dk_46 (dk_at dksX3_reckons_2 18 rfl rfl)
theorem dX3_reckons_67 : decode cX3_reckons 67 = .ok (.iastore, 1) := dk_79 (dk_at dksX3_reckons_2 19 rfl rfl)
theorem dX3_reckons_68 : decode cX3_reckons 68 = .ok (.iinc 3 1, 3) := dk_132 3 1 (dk_at dksX3_reckons_2 20 rfl rfl)
theorem dX3_reckons_71 : decode cX3_reckons 71 = .ok (.iinc 2 1, 3) := dk_132 2 1 (dk_at dksX3_reckons_3 0 rfl rfl)
theorem dX3_reckons_74 : decode cX3_reckons 74 = .ok (.goto 66, 3) := dk_167 0 66 (dk_at dksX3_reckons_3 3 rfl rfl)
theorem dX3_reckons_77 : decode cX3_reckons 77 = .ok (.iload 4, 2) := dk_21 4 (dk_at dksX3_reckons_3 6 rfl rfl)
theorem dX3_reckons_79 : decode cX3_reckons 79 = .ok (.iconst 3, 1) := dk_6 (dk_at dksX3_reckons_3 8 rfl rfl)
theorem dX3_reckons_80 : decode cX3_reckons 80 = .ok (.if_icmp .ne 30, 3) := dk_160 0 30 (dk_at dksX3_reckons_3 9 rfl rfl)
theorem dX3_reckons_83 : decode cX3_reckons 83 = .ok (.aload_n 0, 1) := dk_42 (dk_at dksX3_reckons_3 12 rfl rfl)
theorem dX3_reckons_84 : decode cX3_reckons 84 = .ok (.getfield 93, 3) := dk_180 0 93 (dk_at dksX3_reckons_3 13 rfl rfl)
theorem dX3_reckons_87 : decode cX3_reckons 87 = .ok (.iload_n 2, 1) := dk_28 (dk_at dksX3_reckons_3 16 rfl rfl)
theorem dX3_reckons_88 : decode cX3_reckons 88 = .ok (.iconst 1, 1) := dk_4 (dk_at dksX3_reckons_3 17 rfl rfl)
theorem dX3_reckons_89 : decode cX3_reckons 89 = .ok (.isub, 1) := dk_100 (dk_at dksX3_reckons_3 18 rfl rfl)
theorem dX3_reckons_90 : decode cX3_reckons 90 = .ok (.aload_n 0, 1) := dk_42 (dk_at dksX3_reckons_3 19 rfl rfl)
theorem dX3_reckons_91 : decode cX3_reckons 91 = .ok (.getfield 93, 3) := dk_180 0 93 (dk_at dksX3_reckons_3 20 rfl rfl)
theorem dX3_reckons_94 : decode cX3_reckons 94 = .ok (.iload_n 2, 1) := dk_28 (dk_at dksX3_reckons_3 23 rfl rfl)
theorem dX3_reckons_95 : decode cX3_reckons 95 = .ok (.iconst 1, 1) := dk_4 (dk_at dksX3_reckons_4 0 rfl rfl)
theorem dX3_reckons_96 : decode cX3_reckons 96 = .ok (.isub, 1) := dk_100 (dk_at dksX3_reckons_4 1 rfl rfl)
theorem dX3_reckons_97 : decode cX3_reckons 97 = .ok (.iaload, 1) := dk_46 (dk_at dksX3_reckons_4 2 rfl rfl)
theorem dX3_reckons_98 : decode cX3_reckons 98 = .ok (.ifCond .ne 7, 3) := dk_154 0 7 (dk_at dksX3_reckons_4 3 rfl rfl)
theorem dX3_reckons_101 : decode cX3_reckons 101 = .ok (.iconst 1, 1) := dk_4 (dk_at dksX3_reckons_4 6 rfl rfl)
theorem dX3_reckons_102 : decode cX3_reckons 102 = .ok (.goto 4, 3) := dk_167 0 4 (dk_at dksX3_reckons_4 7 rfl rfl)
theorem dX3_reckons_105 : decode cX3_reckons 105 = .ok (.iconst 0, 1) := dk_3 (dk_at dksX3_reckons_4 10 rfl rfl)
theorem dX3_reckons_106 : decode cX3_reckons 106 = .ok (.iastore, 1) := dk_79 (dk_at dksX3_reckons_4 11 rfl rfl)
theorem dX3_reckons_107 : decode cX3_reckons 107 = .ok (.goto 33, 3) := dk_167 0 33 (dk_at dksX3_reckons_4 12 rfl rfl)
theorem dX3_reckons_110 : decode cX3_reckons 110 = .ok (.iinc 2 (-1), 3) := dk_132 2 255 (dk_at dksX3_reckons_4 15 rfl rfl)
theorem dX3_reckons_113 : decode cX3_reckons 113 = .ok (.aload_n 0, 1) := dk_42 (dk_at dksX3_reckons_4 18 rfl rfl)
theorem dX3_reckons_114 : decode cX3_reckons 114 = .ok (.getfield 93, 3) := dk_180 0 93 (dk_at dksX3_reckons_4 19 rfl rfl)
theorem dX3_reckons_117 : decode cX3_reckons 117 = .ok (.iload_n 2, 1) := dk_28 (dk_at dksX3_reckons_4 22 rfl rfl)
theorem dX3_reckons_118 : decode cX3_reckons 118 = .ok (.iconst 1, 1) := dk_4 (dk_at dksX3_reckons_4 23 rfl rfl)
theorem dX3_reckons_119 : decode cX3_reckons 119 = .ok (.isub, 1) := dk_100 (dk_at dksX3_reckons_5 0 rfl rfl)
theorem dX3_reckons_120 : decode cX3_reckons 120 = .ok (.iload 4, 2) := dk_21 4 (dk_at dksX3_reckons_5 1 rfl rfl)
theorem dX3_reckons_122 : decode cX3_reckons 122 = .ok (.aload_n 0, 1) := dk_42 (dk_at dksX3_reckons_5 3 rfl rfl)
theorem dX3_reckons_123 : decode cX3_reckons 123 = .ok (.getfield 93, 3) := dk_180 0 93 (dk_at dksX3_reckons_5 4 rfl rfl)
theorem dX3_reckons_126 : decode cX3_reckons 126 = .ok (.iload_n 2, 1) := dk_28 (dk_at dksX3_reckons_5 7 rfl rfl)
theorem dX3_reckons_127 : decode cX3_reckons 127 = .ok (.iconst 1, 1) := dk_4 (dk_at dksX3_reckons_5 8 rfl rfl)
theorem dX3_reckons_128 : decode cX3_reckons 128 = .ok (.isub, 1) := dk_100 (dk_at dksX3_reckons_5 9 rfl rfl)
theorem dX3_reckons_129 : decode cX3_reckons 129 = .ok (.iaload, 1) := dk_46 (dk_at dksX3_reckons_5 10 rfl rfl)
theorem dX3_reckons_130 : decode cX3_reckons 130 = .ok (.aload_n 0, 1) := dk_42 (dk_at dksX3_reckons_5 11 rfl rfl)
theorem dX3_reckons_131 : decode cX3_reckons 131 = .ok (.getfield 93, 3) := dk_180 0 93 (dk_at dksX3_reckons_5 12 rfl rfl)
theorem dX3_reckons_134 : decode cX3_reckons 134 = .ok (.iload_n 2, 1) := dk_28 (dk_at dksX3_reckons_5 15 rfl rfl)
theorem dX3_reckons_135 : decode cX3_reckons 135 = .ok (.iaload, 1) := dk_46 (dk_at dksX3_reckons_5 16 rfl rfl)
theorem dX3_reckons_136 : decode cX3_reckons 136 = .ok (.invokestatic 349, 3) := dk_184 1 93 (dk_at dksX3_reckons_5 17 rfl rfl)
theorem dX3_reckons_139 : decode cX3_reckons 139 = .ok (.iastore, 1) := dk_79 (dk_at dksX3_reckons_5 20 rfl rfl)
theorem dX3_reckons_140 : decode cX3_reckons 140 = .ok (.goto (-136), 3) := dk_167 255 120 (dk_at dksX3_reckons_5 21 rfl rfl)
theorem dX3_reckons_143 : decode cX3_reckons 143 = .ok (.aload_n 0, 1) := dk_42 (dk_at dksX3_reckons_6 0 rfl rfl)
theorem dX3_reckons_144 : decode cX3_reckons 144 = .ok (.getfield 93, 3) := dk_180 0 93 (dk_at dksX3_reckons_6 1 rfl rfl)
theorem dX3_reckons_147 : decode cX3_reckons 147 = .ok (.iconst 0, 1) := dk_3 (dk_at dksX3_reckons_6 4 rfl rfl)
theorem dX3_reckons_148 : decode cX3_reckons 148 = .ok (.iaload, 1) := dk_46 (dk_at dksX3_reckons_6 5 rfl rfl)
theorem dX3_reckons_149 : decode cX3_reckons 149 = .ok (.ireturn, 1) := dk_172 (dk_at dksX3_reckons_6 6 rfl rfl)
abbrev cX3_works : ByteArray := prog_14_method_45_code
def yX3_works : MethodName := ⟨RX3, "works", "(III)I"⟩
def dkwX3_works_5 : List UInt8 := [167, 0, 6, 27, 28, 108, 172]
abbrev dktX3_works_5 : List UInt8 := dkwX3_works_5 ++ []
def dkwX3_works_4 : List UInt8 := [167, 0, 4, 3, 172, 27, 28, 96, 172, 27, 28, 100, 172, 27, 28, 104, 172, 28, 154, 0, 7, 3]
abbrev dktX3_works_4 : List UInt8 := dkwX3_works_4 ++ dktX3_works_5
def dkwX3_works_3 : List UInt8 := [167, 0, 4, 3, 172, 27, 28, 162, 0, 7, 4, 167, 0, 4, 3, 172, 27, 28, 160, 0, 7, 4]
abbrev dktX3_works_3 : List UInt8 := dkwX3_works_3 ++ dktX3_works_4
def dkwX3_works_2 : List UInt8 := [27, 153, 0, 11, 28, 153, 0, 7, 4, 167, 0, 4, 3, 172, 27, 154, 0, 7, 28, 153, 0, 7, 4]
abbrev dktX3_works_2 : List UInt8 := dkwX3_works_2 ++ dktX3_works_3
def dkwX3_works_1 : List UInt8 := [170, 0, 0, 0, 0, 0, 105, 0, 0, 0, 4, 0, 0, 0, 10, 0, 0, 0, 43, 0, 0, 0, 57, 0, 0, 0, 71, 0, 0, 0, 82, 0, 0, 0, 93, 0, 0, 0, 97, 0, 0, 0, 101]
abbrev dktX3_works_1 : List UInt8 := dkwX3_works_1 ++ dktX3_works_2
def dkwX3_works_0 : List UInt8 := [26]
abbrev dktX3_works_0 : List UInt8 := dkwX3_works_0 ++ dktX3_works_1
theorem dksX3_works_0 : cX3_works.data.toList.drop 0 = dktX3_works_0 := by decide +kernel
theorem dksX3_works_1 : cX3_works.data.toList.drop 1 = dktX3_works_1 := dk_seg dksX3_works_0 1 rfl rfl
theorem dksX3_works_2 : cX3_works.data.toList.drop 44 = dktX3_works_2 := dk_seg dksX3_works_1 43 rfl rfl
theorem dksX3_works_3 : cX3_works.data.toList.drop 67 = dktX3_works_3 := dk_seg dksX3_works_2 23 rfl rfl
theorem dksX3_works_4 : cX3_works.data.toList.drop 89 = dktX3_works_4 := dk_seg dksX3_works_3 22 rfl rfl
theorem dksX3_works_5 : cX3_works.data.toList.drop 111 = dktX3_works_5 := dk_seg dksX3_works_4 22 rfl rfl
theorem dX3_works_0 : decode cX3_works 0 = .ok (.iload_n 0, 1) := dk_26 (dk_at dksX3_works_0 0 rfl rfl)
theorem dX3_works_1 : decode cX3_works 1 = .ok (.tableswitch 105 4 10 #[43, 57, 71, 82, 93, 97, 101], 43) := by decide +kernel
theorem dX3_works_44 : decode cX3_works 44 = .ok (.iload_n 1, 1) := dk_27 (dk_at dksX3_works_2 0 rfl rfl)
theorem dX3_works_45 : decode cX3_works 45 = .ok (.ifCond .eq 11, 3) := dk_153 0 11 (dk_at dksX3_works_2 1 rfl rfl)
theorem dX3_works_48 : decode cX3_works 48 = .ok (.iload_n 2, 1) := dk_28 (dk_at dksX3_works_2 4 rfl rfl)
theorem dX3_works_49 : decode cX3_works 49 = .ok (.ifCond .eq 7, 3) := dk_153 0 7 (dk_at dksX3_works_2 5 rfl rfl)
theorem dX3_works_52 : decode cX3_works 52 = .ok (.iconst 1, 1) := dk_4 (dk_at dksX3_works_2 8 rfl rfl)
theorem dX3_works_53 : decode cX3_works 53 = .ok (.goto 4, 3) := dk_167 0 4 (dk_at dksX3_works_2 9 rfl rfl)
theorem dX3_works_56 : decode cX3_works 56 = .ok (.iconst 0, 1) := dk_3 (dk_at dksX3_works_2 12 rfl rfl)
theorem dX3_works_57 : decode cX3_works 57 = .ok (.ireturn, 1) := dk_172 (dk_at dksX3_works_2 13 rfl rfl)
theorem dX3_works_58 : decode cX3_works 58 = .ok (.iload_n 1, 1) := dk_27 (dk_at dksX3_works_2 14 rfl rfl)
theorem dX3_works_59 : decode cX3_works 59 = .ok (.ifCond .ne 7, 3) := dk_154 0 7 (dk_at dksX3_works_2 15 rfl rfl)
theorem dX3_works_62 : decode cX3_works 62 = .ok (.iload_n 2, 1) := dk_28 (dk_at dksX3_works_2 18 rfl rfl)
theorem dX3_works_63 : decode cX3_works 63 = .ok (.ifCond .eq 7, 3) := dk_153 0 7 (dk_at dksX3_works_2 19 rfl rfl)
theorem dX3_works_66 : decode cX3_works 66 = .ok (.iconst 1, 1) := dk_4 (dk_at dksX3_works_2 22 rfl rfl)
theorem dX3_works_67 : decode cX3_works 67 = .ok (.goto 4, 3) := dk_167 0 4 (dk_at dksX3_works_3 0 rfl rfl)
theorem dX3_works_70 : decode cX3_works 70 = .ok (.iconst 0, 1) := dk_3 (dk_at dksX3_works_3 3 rfl rfl)
theorem dX3_works_71 : decode cX3_works 71 = .ok (.ireturn, 1) := dk_172 (dk_at dksX3_works_3 4 rfl rfl)
theorem dX3_works_72 : decode cX3_works 72 = .ok (.iload_n 1, 1) := dk_27 (dk_at dksX3_works_3 5 rfl rfl)
theorem dX3_works_73 : decode cX3_works 73 = .ok (.iload_n 2, 1) := dk_28 (dk_at dksX3_works_3 6 rfl rfl)
theorem dX3_works_74 : decode cX3_works 74 = .ok (.if_icmp .ge 7, 3) := dk_162 0 7 (dk_at dksX3_works_3 7 rfl rfl)
theorem dX3_works_77 : decode cX3_works 77 = .ok (.iconst 1, 1) := dk_4 (dk_at dksX3_works_3 10 rfl rfl)
theorem dX3_works_78 : decode cX3_works 78 = .ok (.goto 4, 3) := dk_167 0 4 (dk_at dksX3_works_3 11 rfl rfl)
theorem dX3_works_81 : decode cX3_works 81 = .ok (.iconst 0, 1) := dk_3 (dk_at dksX3_works_3 14 rfl rfl)
theorem dX3_works_82 : decode cX3_works 82 = .ok (.ireturn, 1) := dk_172 (dk_at dksX3_works_3 15 rfl rfl)
theorem dX3_works_83 : decode cX3_works 83 = .ok (.iload_n 1, 1) := dk_27 (dk_at dksX3_works_3 16 rfl rfl)
theorem dX3_works_84 : decode cX3_works 84 = .ok (.iload_n 2, 1) := dk_28 (dk_at dksX3_works_3 17 rfl rfl)
theorem dX3_works_85 : decode cX3_works 85 = .ok (.if_icmp .ne 7, 3) := dk_160 0 7 (dk_at dksX3_works_3 18 rfl rfl)
theorem dX3_works_88 : decode cX3_works 88 = .ok (.iconst 1, 1) := dk_4 (dk_at dksX3_works_3 21 rfl rfl)
theorem dX3_works_89 : decode cX3_works 89 = .ok (.goto 4, 3) := dk_167 0 4 (dk_at dksX3_works_4 0 rfl rfl)
theorem dX3_works_92 : decode cX3_works 92 = .ok (.iconst 0, 1) := dk_3 (dk_at dksX3_works_4 3 rfl rfl)
theorem dX3_works_93 : decode cX3_works 93 = .ok (.ireturn, 1) := dk_172 (dk_at dksX3_works_4 4 rfl rfl)
theorem dX3_works_94 : decode cX3_works 94 = .ok (.iload_n 1, 1) := dk_27 (dk_at dksX3_works_4 5 rfl rfl)
theorem dX3_works_95 : decode cX3_works 95 = .ok (.iload_n 2, 1) := dk_28 (dk_at dksX3_works_4 6 rfl rfl)
theorem dX3_works_96 : decode cX3_works 96 = .ok (.iadd, 1) := dk_96 (dk_at dksX3_works_4 7 rfl rfl)
theorem dX3_works_97 : decode cX3_works 97 = .ok (.ireturn, 1) := dk_172 (dk_at dksX3_works_4 8 rfl rfl)
theorem dX3_works_98 : decode cX3_works 98 = .ok (.iload_n 1, 1) := dk_27 (dk_at dksX3_works_4 9 rfl rfl)
theorem dX3_works_99 : decode cX3_works 99 = .ok (.iload_n 2, 1) := dk_28 (dk_at dksX3_works_4 10 rfl rfl)
theorem dX3_works_100 : decode cX3_works 100 = .ok (.isub, 1) := dk_100 (dk_at dksX3_works_4 11 rfl rfl)
theorem dX3_works_101 : decode cX3_works 101 = .ok (.ireturn, 1) := dk_172 (dk_at dksX3_works_4 12 rfl rfl)
theorem dX3_works_102 : decode cX3_works 102 = .ok (.iload_n 1, 1) := dk_27 (dk_at dksX3_works_4 13 rfl rfl)
theorem dX3_works_103 : decode cX3_works 103 = .ok (.iload_n 2, 1) := dk_28 (dk_at dksX3_works_4 14 rfl rfl)
theorem dX3_works_104 : decode cX3_works 104 = .ok (.imul, 1) := dk_104 (dk_at dksX3_works_4 15 rfl rfl)
theorem dX3_works_105 : decode cX3_works 105 = .ok (.ireturn, 1) := dk_172 (dk_at dksX3_works_4 16 rfl rfl)
theorem dX3_works_106 : decode cX3_works 106 = .ok (.iload_n 2, 1) := dk_28 (dk_at dksX3_works_4 17 rfl rfl)
theorem dX3_works_107 : decode cX3_works 107 = .ok (.ifCond .ne 7, 3) := dk_154 0 7 (dk_at dksX3_works_4 18 rfl rfl)
theorem dX3_works_110 : decode cX3_works 110 = .ok (.iconst 0, 1) := dk_3 (dk_at dksX3_works_4 21 rfl rfl)
theorem dX3_works_111 : decode cX3_works 111 = .ok (.goto 6, 3) := dk_167 0 6 (dk_at dksX3_works_5 0 rfl rfl)
theorem dX3_works_114 : decode cX3_works 114 = .ok (.iload_n 1, 1) := dk_27 (dk_at dksX3_works_5 3 rfl rfl)
theorem dX3_works_115 : decode cX3_works 115 = .ok (.iload_n 2, 1) := dk_28 (dk_at dksX3_works_5 4 rfl rfl)
theorem dX3_works_116 : decode cX3_works 116 = .ok (.idiv, 1) := dk_108 (dk_at dksX3_works_5 5 rfl rfl)
theorem dX3_works_117 : decode cX3_works 117 = .ok (.ireturn, 1) := dk_172 (dk_at dksX3_works_5 6 rfl rfl)
abbrev cX3_flies : ByteArray := prog_14_method_49_code
def yX3_flies : MethodName := ⟨RX3, "flies", "(III)I"⟩
def dkwX3_flies_2 : List UInt8 := [160, 0, 10, 5, 21, 4, 104, 167, 0, 5, 21, 4, 172]
abbrev dktX3_flies_2 : List UInt8 := dkwX3_flies_2 ++ []
def dkwX3_flies_1 : List UInt8 := [180, 0, 78, 4, 46, 7, 161, 0, 11, 21, 4, 4, 96, 5, 108, 54, 4, 42, 180, 0, 78, 5, 46, 4]
abbrev dktX3_flies_1 : List UInt8 := dkwX3_flies_1 ++ dktX3_flies_2
def dkwX3_flies_0 : List UInt8 := [42, 180, 0, 13, 16, 10, 28, 104, 29, 96, 46, 54, 4, 42, 180, 0, 17, 27, 46, 4, 160, 0, 21, 42]
abbrev dktX3_flies_0 : List UInt8 := dkwX3_flies_0 ++ dktX3_flies_1
theorem dksX3_flies_0 : cX3_flies.data.toList.drop 0 = dktX3_flies_0 := by decide +kernel
theorem dksX3_flies_1 : cX3_flies.data.toList.drop 24 = dktX3_flies_1 := dk_seg dksX3_flies_0 24 rfl rfl
theorem dksX3_flies_2 : cX3_flies.data.toList.drop 48 = dktX3_flies_2 := dk_seg dksX3_flies_1 24 rfl rfl
theorem dX3_flies_0 : decode cX3_flies 0 = .ok (.aload_n 0, 1) := dk_42 (dk_at dksX3_flies_0 0 rfl rfl)
theorem dX3_flies_1 : decode cX3_flies 1 = .ok (.getfield 13, 3) := dk_180 0 13 (dk_at dksX3_flies_0 1 rfl rfl)
theorem dX3_flies_4 : decode cX3_flies 4 = .ok (.bipush 10, 2) := dk_16 10 (dk_at dksX3_flies_0 4 rfl rfl)
theorem dX3_flies_6 : decode cX3_flies 6 = .ok (.iload_n 2, 1) := dk_28 (dk_at dksX3_flies_0 6 rfl rfl)
theorem dX3_flies_7 : decode cX3_flies 7 = .ok (.imul, 1) := dk_104 (dk_at dksX3_flies_0 7 rfl rfl)
theorem dX3_flies_8 : decode cX3_flies 8 = .ok (.iload_n 3, 1) := dk_29 (dk_at dksX3_flies_0 8 rfl rfl)
theorem dX3_flies_9 : decode cX3_flies 9 = .ok (.iadd, 1) := dk_96 (dk_at dksX3_flies_0 9 rfl rfl)
theorem dX3_flies_10 : decode cX3_flies 10 = .ok (.iaload, 1) := dk_46 (dk_at dksX3_flies_0 10 rfl rfl)
theorem dX3_flies_11 : decode cX3_flies 11 = .ok (.istore 4, 2) := dk_54 4 (dk_at dksX3_flies_0 11 rfl rfl)
theorem dX3_flies_13 : decode cX3_flies 13 = .ok (.aload_n 0, 1) := dk_42 (dk_at dksX3_flies_0 13 rfl rfl)
theorem dX3_flies_14 : decode cX3_flies 14 = .ok (.getfield 17, 3) := dk_180 0 17 (dk_at dksX3_flies_0 14 rfl rfl)
theorem dX3_flies_17 : decode cX3_flies 17 = .ok (.iload_n 1, 1) := dk_27 (dk_at dksX3_flies_0 17 rfl rfl)
theorem dX3_flies_18 : decode cX3_flies 18 = .ok (.iaload, 1) := dk_46 (dk_at dksX3_flies_0 18 rfl rfl)
theorem dX3_flies_19 : decode cX3_flies 19 = .ok (.iconst 1, 1) := dk_4 (dk_at dksX3_flies_0 19 rfl rfl)
theorem dX3_flies_20 : decode cX3_flies 20 = .ok (.if_icmp .ne 21, 3) := dk_160 0 21 (dk_at dksX3_flies_0 20 rfl rfl)
theorem dX3_flies_23 : decode cX3_flies 23 = .ok (.aload_n 0, 1) := dk_42 (dk_at dksX3_flies_0 23 rfl rfl)
theorem dX3_flies_24 : decode cX3_flies 24 = .ok (.getfield 78, 3) := dk_180 0 78 (dk_at dksX3_flies_1 0 rfl rfl)
theorem dX3_flies_27 : decode cX3_flies 27 = .ok (.iconst 1, 1) := dk_4 (dk_at dksX3_flies_1 3 rfl rfl)
theorem dX3_flies_28 : decode cX3_flies 28 = .ok (.iaload, 1) := dk_46 (dk_at dksX3_flies_1 4 rfl rfl)
theorem dX3_flies_29 : decode cX3_flies 29 = .ok (.iconst 4, 1) := dk_7 (dk_at dksX3_flies_1 5 rfl rfl)
theorem dX3_flies_30 : decode cX3_flies 30 = .ok (.if_icmp .lt 11, 3) := dk_161 0 11 (dk_at dksX3_flies_1 6 rfl rfl)
theorem dX3_flies_33 : decode cX3_flies 33 = .ok (.iload 4, 2) := dk_21 4 (dk_at dksX3_flies_1 9 rfl rfl)
theorem dX3_flies_35 : decode cX3_flies 35 = .ok (.iconst 1, 1) := dk_4 (dk_at dksX3_flies_1 11 rfl rfl)
theorem dX3_flies_36 : decode cX3_flies 36 = .ok (.iadd, 1) := dk_96 (dk_at dksX3_flies_1 12 rfl rfl)
theorem dX3_flies_37 : decode cX3_flies 37 = .ok (.iconst 2, 1) := dk_5 (dk_at dksX3_flies_1 13 rfl rfl)
theorem dX3_flies_38 : decode cX3_flies 38 = .ok (.idiv, 1) := dk_108 (dk_at dksX3_flies_1 14 rfl rfl)
theorem dX3_flies_39 : decode cX3_flies 39 = .ok (.istore 4, 2) := dk_54 4 (dk_at dksX3_flies_1 15 rfl rfl)
theorem dX3_flies_41 : decode cX3_flies 41 = .ok (.aload_n 0, 1) := dk_42 (dk_at dksX3_flies_1 17 rfl rfl)
theorem dX3_flies_42 : decode cX3_flies 42 = .ok (.getfield 78, 3) := dk_180 0 78 (dk_at dksX3_flies_1 18 rfl rfl)
theorem dX3_flies_45 : decode cX3_flies 45 = .ok (.iconst 2, 1) := dk_5 (dk_at dksX3_flies_1 21 rfl rfl)
theorem dX3_flies_46 : decode cX3_flies 46 = .ok (.iaload, 1) := dk_46 (dk_at dksX3_flies_1 22 rfl rfl)
theorem dX3_flies_47 : decode cX3_flies 47 = .ok (.iconst 1, 1) := dk_4 (dk_at dksX3_flies_1 23 rfl rfl)
theorem dX3_flies_48 : decode cX3_flies 48 = .ok (.if_icmp .ne 10, 3) := dk_160 0 10 (dk_at dksX3_flies_2 0 rfl rfl)
theorem dX3_flies_51 : decode cX3_flies 51 = .ok (.iconst 2, 1) := dk_5 (dk_at dksX3_flies_2 3 rfl rfl)
theorem dX3_flies_52 : decode cX3_flies 52 = .ok (.iload 4, 2) := dk_21 4 (dk_at dksX3_flies_2 4 rfl rfl)
theorem dX3_flies_54 : decode cX3_flies 54 = .ok (.imul, 1) := dk_104 (dk_at dksX3_flies_2 6 rfl rfl)
theorem dX3_flies_55 : decode cX3_flies 55 = .ok (.goto 5, 3) := dk_167 0 5 (dk_at dksX3_flies_2 7 rfl rfl)
theorem dX3_flies_58 : decode cX3_flies 58 = .ok (.iload 4, 2) := dk_21 4 (dk_at dksX3_flies_2 10 rfl rfl)
theorem dX3_flies_60 : decode cX3_flies 60 = .ok (.ireturn, 1) := dk_172 (dk_at dksX3_flies_2 12 rfl rfl)
abbrev cX3_soonest : ByteArray := prog_14_method_56_code
def yX3_soonest : MethodName := ⟨RX3, "soonest", "(I)I"⟩
def dkwX3_soonest_1 : List UInt8 := [28, 167, 0, 6, 19, 1, 92, 172]
abbrev dktX3_soonest_1 : List UInt8 := dkwX3_soonest_1 ++ []
def dkwX3_soonest_0 : List UInt8 := [42, 27, 182, 1, 117, 42, 180, 0, 114, 42, 27, 182, 1, 120, 46, 61, 28, 42, 180, 0, 7, 163, 0, 7]
abbrev dktX3_soonest_0 : List UInt8 := dkwX3_soonest_0 ++ dktX3_soonest_1
theorem dksX3_soonest_0 : cX3_soonest.data.toList.drop 0 = dktX3_soonest_0 := by decide +kernel
theorem dksX3_soonest_1 : cX3_soonest.data.toList.drop 24 = dktX3_soonest_1 := dk_seg dksX3_soonest_0 24 rfl rfl
theorem dX3_soonest_0 : decode cX3_soonest 0 = .ok (.aload_n 0, 1) := dk_42 (dk_at dksX3_soonest_0 0 rfl rfl)
theorem dX3_soonest_1 : decode cX3_soonest 1 = .ok (.iload_n 1, 1) := dk_27 (dk_at dksX3_soonest_0 1 rfl rfl)
theorem dX3_soonest_2 : decode cX3_soonest 2 = .ok (.invokevirtual 373, 3) := dk_182 1 117 (dk_at dksX3_soonest_0 2 rfl rfl)
theorem dX3_soonest_5 : decode cX3_soonest 5 = .ok (.aload_n 0, 1) := dk_42 (dk_at dksX3_soonest_0 5 rfl rfl)
theorem dX3_soonest_6 : decode cX3_soonest 6 = .ok (.getfield 114, 3) := dk_180 0 114 (dk_at dksX3_soonest_0 6 rfl rfl)
theorem dX3_soonest_9 : decode cX3_soonest 9 = .ok (.aload_n 0, 1) := dk_42 (dk_at dksX3_soonest_0 9 rfl rfl)
theorem dX3_soonest_10 : decode cX3_soonest 10 = .ok (.iload_n 1, 1) := dk_27 (dk_at dksX3_soonest_0 10 rfl rfl)
theorem dX3_soonest_11 : decode cX3_soonest 11 = .ok (.invokevirtual 376, 3) := dk_182 1 120 (dk_at dksX3_soonest_0 11 rfl rfl)
theorem dX3_soonest_14 : decode cX3_soonest 14 = .ok (.iaload, 1) := dk_46 (dk_at dksX3_soonest_0 14 rfl rfl)
theorem dX3_soonest_15 : decode cX3_soonest 15 = .ok (.istore_n 2, 1) := dk_61 (dk_at dksX3_soonest_0 15 rfl rfl)
theorem dX3_soonest_16 : decode cX3_soonest 16 = .ok (.iload_n 2, 1) := dk_28 (dk_at dksX3_soonest_0 16 rfl rfl)
theorem dX3_soonest_17 : decode cX3_soonest 17 = .ok (.aload_n 0, 1) := dk_42 (dk_at dksX3_soonest_0 17 rfl rfl)
theorem dX3_soonest_18 : decode cX3_soonest 18 = .ok (.getfield 7, 3) := dk_180 0 7 (dk_at dksX3_soonest_0 18 rfl rfl)
theorem dX3_soonest_21 : decode cX3_soonest 21 = .ok (.if_icmp .gt 7, 3) := dk_163 0 7 (dk_at dksX3_soonest_0 21 rfl rfl)
theorem dX3_soonest_24 : decode cX3_soonest 24 = .ok (.iload_n 2, 1) := dk_28 (dk_at dksX3_soonest_1 0 rfl rfl)
theorem dX3_soonest_25 : decode cX3_soonest 25 = .ok (.goto 6, 3) := dk_167 0 6 (dk_at dksX3_soonest_1 1 rfl rfl)
theorem dX3_soonest_28 : decode cX3_soonest 28 = .ok (.ldc_w 348, 3) := dk_19 1 92 (dk_at dksX3_soonest_1 4 rfl rfl)
theorem dX3_soonest_31 : decode cX3_soonest 31 = .ok (.ireturn, 1) := dk_172 (dk_at dksX3_soonest_1 7 rfl rfl)
abbrev cX3_rides : ByteArray := prog_14_method_54_code
def yX3_rides : MethodName := ⟨RX3, "rides", "(I)V"⟩
def dkwX3_rides_2 : List UInt8 := [153, 0, 7, 4, 167, 0, 4, 3, 61, 132, 3, 1, 167, 255, 217, 167, 255, 206, 177]
abbrev dktX3_rides_2 : List UInt8 := dkwX3_rides_2 ++ []
def dkwX3_rides_1 : List UInt8 := [162, 0, 37, 42, 29, 42, 180, 0, 114, 3, 42, 180, 0, 114, 3, 182, 1, 113, 154, 0, 7, 28]
abbrev dktX3_rides_1 : List UInt8 := dkwX3_rides_1 ++ dktX3_rides_2
def dkwX3_rides_0 : List UInt8 := [42, 27, 42, 180, 0, 114, 182, 1, 109, 4, 61, 28, 153, 0, 52, 3, 61, 3, 62, 29, 42, 180, 1, 63]
abbrev dktX3_rides_0 : List UInt8 := dkwX3_rides_0 ++ dktX3_rides_1
theorem dksX3_rides_0 : cX3_rides.data.toList.drop 0 = dktX3_rides_0 := by decide +kernel
theorem dksX3_rides_1 : cX3_rides.data.toList.drop 24 = dktX3_rides_1 := dk_seg dksX3_rides_0 24 rfl rfl
theorem dksX3_rides_2 : cX3_rides.data.toList.drop 46 = dktX3_rides_2 := dk_seg dksX3_rides_1 22 rfl rfl
theorem dX3_rides_0 : decode cX3_rides 0 = .ok (.aload_n 0, 1) := dk_42 (dk_at dksX3_rides_0 0 rfl rfl)
theorem dX3_rides_1 : decode cX3_rides 1 = .ok (.iload_n 1, 1) := dk_27 (dk_at dksX3_rides_0 1 rfl rfl)
theorem dX3_rides_2 : decode cX3_rides 2 = .ok (.aload_n 0, 1) := dk_42 (dk_at dksX3_rides_0 2 rfl rfl)
theorem dX3_rides_3 : decode cX3_rides 3 = .ok (.getfield 114, 3) := dk_180 0 114 (dk_at dksX3_rides_0 3 rfl rfl)
theorem dX3_rides_6 : decode cX3_rides 6 = .ok (.invokevirtual 365, 3) := dk_182 1 109 (dk_at dksX3_rides_0 6 rfl rfl)
theorem dX3_rides_9 : decode cX3_rides 9 = .ok (.iconst 1, 1) := dk_4 (dk_at dksX3_rides_0 9 rfl rfl)
theorem dX3_rides_10 : decode cX3_rides 10 = .ok (.istore_n 2, 1) := dk_61 (dk_at dksX3_rides_0 10 rfl rfl)
theorem dX3_rides_11 : decode cX3_rides 11 = .ok (.iload_n 2, 1) := dk_28 (dk_at dksX3_rides_0 11 rfl rfl)
theorem dX3_rides_12 : decode cX3_rides 12 = .ok (.ifCond .eq 52, 3) := dk_153 0 52 (dk_at dksX3_rides_0 12 rfl rfl)
theorem dX3_rides_15 : decode cX3_rides 15 = .ok (.iconst 0, 1) := dk_3 (dk_at dksX3_rides_0 15 rfl rfl)
theorem dX3_rides_16 : decode cX3_rides 16 = .ok (.istore_n 2, 1) := dk_61 (dk_at dksX3_rides_0 16 rfl rfl)
theorem dX3_rides_17 : decode cX3_rides 17 = .ok (.iconst 0, 1) := dk_3 (dk_at dksX3_rides_0 17 rfl rfl)
theorem dX3_rides_18 : decode cX3_rides 18 = .ok (.istore_n 3, 1) := dk_62 (dk_at dksX3_rides_0 18 rfl rfl)
theorem dX3_rides_19 : decode cX3_rides 19 = .ok (.iload_n 3, 1) := dk_29 (dk_at dksX3_rides_0 19 rfl rfl)
theorem dX3_rides_20 : decode cX3_rides 20 = .ok (.aload_n 0, 1) := dk_42 (dk_at dksX3_rides_0 20 rfl rfl)
theorem dX3_rides_21 : decode cX3_rides 21 = .ok (.getfield 319, 3) := dk_180 1 63 (dk_at dksX3_rides_0 21 rfl rfl)
theorem dX3_rides_24 : decode cX3_rides 24 = .ok (.if_icmp .ge 37, 3) := dk_162 0 37 (dk_at dksX3_rides_1 0 rfl rfl)
theorem dX3_rides_27 : decode cX3_rides 27 = .ok (.aload_n 0, 1) := dk_42 (dk_at dksX3_rides_1 3 rfl rfl)
theorem dX3_rides_28 : decode cX3_rides 28 = .ok (.iload_n 3, 1) := dk_29 (dk_at dksX3_rides_1 4 rfl rfl)
theorem dX3_rides_29 : decode cX3_rides 29 = .ok (.aload_n 0, 1) := dk_42 (dk_at dksX3_rides_1 5 rfl rfl)
theorem dX3_rides_30 : decode cX3_rides 30 = .ok (.getfield 114, 3) := dk_180 0 114 (dk_at dksX3_rides_1 6 rfl rfl)
theorem dX3_rides_33 : decode cX3_rides 33 = .ok (.iconst 0, 1) := dk_3 (dk_at dksX3_rides_1 9 rfl rfl)
theorem dX3_rides_34 : decode cX3_rides 34 = .ok (.aload_n 0, 1) := dk_42 (dk_at dksX3_rides_1 10 rfl rfl)
theorem dX3_rides_35 : decode cX3_rides 35 = .ok (.getfield 114, 3) := dk_180 0 114 (dk_at dksX3_rides_1 11 rfl rfl)
theorem dX3_rides_38 : decode cX3_rides 38 = .ok (.iconst 0, 1) := dk_3 (dk_at dksX3_rides_1 14 rfl rfl)
theorem dX3_rides_39 : decode cX3_rides 39 = .ok (.invokevirtual 369, 3) := dk_182 1 113 (dk_at dksX3_rides_1 15 rfl rfl)
theorem dX3_rides_42 : decode cX3_rides 42 = .ok (.ifCond .ne 7, 3) := dk_154 0 7 (dk_at dksX3_rides_1 18 rfl rfl)
theorem dX3_rides_45 : decode cX3_rides 45 = .ok (.iload_n 2, 1) := dk_28 (dk_at dksX3_rides_1 21 rfl rfl)
theorem dX3_rides_46 : decode cX3_rides 46 = .ok (.ifCond .eq 7, 3) := dk_153 0 7 (dk_at dksX3_rides_2 0 rfl rfl)
theorem dX3_rides_49 : decode cX3_rides 49 = .ok (.iconst 1, 1) := dk_4 (dk_at dksX3_rides_2 3 rfl rfl)
theorem dX3_rides_50 : decode cX3_rides 50 = .ok (.goto 4, 3) := dk_167 0 4 (dk_at dksX3_rides_2 4 rfl rfl)
theorem dX3_rides_53 : decode cX3_rides 53 = .ok (.iconst 0, 1) := dk_3 (dk_at dksX3_rides_2 7 rfl rfl)
theorem dX3_rides_54 : decode cX3_rides 54 = .ok (.istore_n 2, 1) := dk_61 (dk_at dksX3_rides_2 8 rfl rfl)
theorem dX3_rides_55 : decode cX3_rides 55 = .ok (.iinc 3 1, 3) := dk_132 3 1 (dk_at dksX3_rides_2 9 rfl rfl)
theorem dX3_rides_58 : decode cX3_rides 58 = .ok (.goto (-39), 3) := dk_167 255 217 (dk_at dksX3_rides_2 12 rfl rfl)
theorem dX3_rides_61 : decode cX3_rides 61 = .ok (.goto (-50), 3) := dk_167 255 206 (dk_at dksX3_rides_2 15 rfl rfl)
theorem dX3_rides_64 : decode cX3_rides 64 = .ok (.return_, 1) := dk_177 (dk_at dksX3_rides_2 18 rfl rfl)
abbrev cX3_waitsAt : ByteArray := prog_14_method_52_code
def yX3_waitsAt : MethodName := ⟨RX3, "waitsAt", "(I[I)V"⟩
def dkwX3_waitsAt_1 : List UInt8 := [180, 0, 26, 7, 27, 104, 46, 42, 180, 0, 26, 7, 27, 104, 5, 96, 46, 79, 177]
abbrev dktX3_waitsAt_1 : List UInt8 := dkwX3_waitsAt_1 ++ []
def dkwX3_waitsAt_0 : List UInt8 := [3, 62, 29, 16, 10, 162, 0, 15, 44, 29, 19, 1, 92, 79, 132, 3, 1, 167, 255, 241, 44, 42]
abbrev dktX3_waitsAt_0 : List UInt8 := dkwX3_waitsAt_0 ++ dktX3_waitsAt_1
theorem dksX3_waitsAt_0 : cX3_waitsAt.data.toList.drop 0 = dktX3_waitsAt_0 := by decide +kernel
theorem dksX3_waitsAt_1 : cX3_waitsAt.data.toList.drop 22 = dktX3_waitsAt_1 := dk_seg dksX3_waitsAt_0 22 rfl rfl
theorem dX3_waitsAt_0 : decode cX3_waitsAt 0 = .ok (.iconst 0, 1) := dk_3 (dk_at dksX3_waitsAt_0 0 rfl rfl)
theorem dX3_waitsAt_1 : decode cX3_waitsAt 1 = .ok (.istore_n 3, 1) := dk_62 (dk_at dksX3_waitsAt_0 1 rfl rfl)
theorem dX3_waitsAt_2 : decode cX3_waitsAt 2 = .ok (.iload_n 3, 1) := dk_29 (dk_at dksX3_waitsAt_0 2 rfl rfl)
theorem dX3_waitsAt_3 : decode cX3_waitsAt 3 = .ok (.bipush 10, 2) := dk_16 10 (dk_at dksX3_waitsAt_0 3 rfl rfl)
theorem dX3_waitsAt_5 : decode cX3_waitsAt 5 = .ok (.if_icmp .ge 15, 3) := dk_162 0 15 (dk_at dksX3_waitsAt_0 5 rfl rfl)
theorem dX3_waitsAt_8 : decode cX3_waitsAt 8 = .ok (.aload_n 2, 1) := dk_44 (dk_at dksX3_waitsAt_0 8 rfl rfl)
theorem dX3_waitsAt_9 : decode cX3_waitsAt 9 = .ok (.iload_n 3, 1) := dk_29 (dk_at dksX3_waitsAt_0 9 rfl rfl)
theorem dX3_waitsAt_10 : decode cX3_waitsAt 10 = .ok (.ldc_w 348, 3) := dk_19 1 92 (dk_at dksX3_waitsAt_0 10 rfl rfl)
theorem dX3_waitsAt_13 : decode cX3_waitsAt 13 = .ok (.iastore, 1) := dk_79 (dk_at dksX3_waitsAt_0 13 rfl rfl)
theorem dX3_waitsAt_14 : decode cX3_waitsAt 14 = .ok (.iinc 3 1, 3) := dk_132 3 1 (dk_at dksX3_waitsAt_0 14 rfl rfl)
theorem dX3_waitsAt_17 : decode cX3_waitsAt 17 = .ok (.goto (-15), 3) := dk_167 255 241 (dk_at dksX3_waitsAt_0 17 rfl rfl)
theorem dX3_waitsAt_20 : decode cX3_waitsAt 20 = .ok (.aload_n 2, 1) := dk_44 (dk_at dksX3_waitsAt_0 20 rfl rfl)
theorem dX3_waitsAt_21 : decode cX3_waitsAt 21 = .ok (.aload_n 0, 1) := dk_42 (dk_at dksX3_waitsAt_0 21 rfl rfl)
theorem dX3_waitsAt_22 : decode cX3_waitsAt 22 = .ok (.getfield 26, 3) := dk_180 0 26 (dk_at dksX3_waitsAt_1 0 rfl rfl)
theorem dX3_waitsAt_25 : decode cX3_waitsAt 25 = .ok (.iconst 4, 1) := dk_7 (dk_at dksX3_waitsAt_1 3 rfl rfl)
theorem dX3_waitsAt_26 : decode cX3_waitsAt 26 = .ok (.iload_n 1, 1) := dk_27 (dk_at dksX3_waitsAt_1 4 rfl rfl)
theorem dX3_waitsAt_27 : decode cX3_waitsAt 27 = .ok (.imul, 1) := dk_104 (dk_at dksX3_waitsAt_1 5 rfl rfl)
theorem dX3_waitsAt_28 : decode cX3_waitsAt 28 = .ok (.iaload, 1) := dk_46 (dk_at dksX3_waitsAt_1 6 rfl rfl)
theorem dX3_waitsAt_29 : decode cX3_waitsAt 29 = .ok (.aload_n 0, 1) := dk_42 (dk_at dksX3_waitsAt_1 7 rfl rfl)
theorem dX3_waitsAt_30 : decode cX3_waitsAt 30 = .ok (.getfield 26, 3) := dk_180 0 26 (dk_at dksX3_waitsAt_1 8 rfl rfl)
theorem dX3_waitsAt_33 : decode cX3_waitsAt 33 = .ok (.iconst 4, 1) := dk_7 (dk_at dksX3_waitsAt_1 11 rfl rfl)
theorem dX3_waitsAt_34 : decode cX3_waitsAt 34 = .ok (.iload_n 1, 1) := dk_27 (dk_at dksX3_waitsAt_1 12 rfl rfl)
theorem dX3_waitsAt_35 : decode cX3_waitsAt 35 = .ok (.imul, 1) := dk_104 (dk_at dksX3_waitsAt_1 13 rfl rfl)
theorem dX3_waitsAt_36 : decode cX3_waitsAt 36 = .ok (.iconst 2, 1) := dk_5 (dk_at dksX3_waitsAt_1 14 rfl rfl)
theorem dX3_waitsAt_37 : decode cX3_waitsAt 37 = .ok (.iadd, 1) := dk_96 (dk_at dksX3_waitsAt_1 15 rfl rfl)
theorem dX3_waitsAt_38 : decode cX3_waitsAt 38 = .ok (.iaload, 1) := dk_46 (dk_at dksX3_waitsAt_1 16 rfl rfl)
theorem dX3_waitsAt_39 : decode cX3_waitsAt 39 = .ok (.iastore, 1) := dk_79 (dk_at dksX3_waitsAt_1 17 rfl rfl)
theorem dX3_waitsAt_40 : decode cX3_waitsAt 40 = .ok (.return_, 1) := dk_177 (dk_at dksX3_waitsAt_1 18 rfl rfl)
abbrev cX3_takes : ByteArray := prog_14_method_53_code
def yX3_takes : MethodName := ⟨RX3, "takes", "(I[II[II)Z"⟩
def dkwX3_takes_5 : List UInt8 := [46, 163, 0, 7, 4, 167, 0, 4, 3, 54, 6, 132, 8, 1, 167, 255, 136, 21, 7, 172]
abbrev dktX3_takes_5 : List UInt8 := dkwX3_takes_5 ++ []
def dkwX3_takes_4 : List UInt8 := [54, 7, 21, 6, 154, 0, 24, 44, 29, 21, 9, 96, 46, 42, 180, 0, 99, 16, 8, 27, 104, 21, 8, 96]
abbrev dktX3_takes_4 : List UInt8 := dkwX3_takes_4 ++ dktX3_takes_5
def dkwX3_takes_3 : List UInt8 := [162, 0, 26, 25, 4, 21, 5, 21, 9, 96, 42, 180, 0, 96, 16, 8, 27, 104, 21, 8, 96, 46, 79, 4]
abbrev dktX3_takes_3 : List UInt8 := dkwX3_takes_3 ++ dktX3_takes_4
def dkwX3_takes_2 : List UInt8 := [153, 0, 49, 42, 180, 0, 96, 16, 8, 27, 104, 21, 8, 96, 46, 25, 4, 21, 5, 21, 9, 96, 46]
abbrev dktX3_takes_2 : List UInt8 := dkwX3_takes_2 ++ dktX3_takes_3
def dkwX3_takes_1 : List UInt8 := [182, 1, 100, 154, 0, 107, 42, 180, 0, 23, 16, 8, 27, 104, 21, 8, 96, 46, 54, 9, 21, 6]
abbrev dktX3_takes_1 : List UInt8 := dkwX3_takes_1 ++ dktX3_takes_2
def dkwX3_takes_0 : List UInt8 := [3, 54, 6, 3, 54, 7, 3, 54, 8, 21, 8, 42, 180, 0, 20, 27, 46, 162, 0, 115, 42, 27]
abbrev dktX3_takes_0 : List UInt8 := dkwX3_takes_0 ++ dktX3_takes_1
theorem dksX3_takes_0 : cX3_takes.data.toList.drop 0 = dktX3_takes_0 := by decide +kernel
theorem dksX3_takes_1 : cX3_takes.data.toList.drop 22 = dktX3_takes_1 := dk_seg dksX3_takes_0 22 rfl rfl
theorem dksX3_takes_2 : cX3_takes.data.toList.drop 44 = dktX3_takes_2 := dk_seg dksX3_takes_1 22 rfl rfl
theorem dksX3_takes_3 : cX3_takes.data.toList.drop 67 = dktX3_takes_3 := dk_seg dksX3_takes_2 23 rfl rfl
theorem dksX3_takes_4 : cX3_takes.data.toList.drop 91 = dktX3_takes_4 := dk_seg dksX3_takes_3 24 rfl rfl
theorem dksX3_takes_5 : cX3_takes.data.toList.drop 115 = dktX3_takes_5 := dk_seg dksX3_takes_4 24 rfl rfl
theorem dX3_takes_0 : decode cX3_takes 0 = .ok (.iconst 0, 1) := dk_3 (dk_at dksX3_takes_0 0 rfl rfl)
theorem dX3_takes_1 : decode cX3_takes 1 = .ok (.istore 6, 2) := dk_54 6 (dk_at dksX3_takes_0 1 rfl rfl)
theorem dX3_takes_3 : decode cX3_takes 3 = .ok (.iconst 0, 1) := dk_3 (dk_at dksX3_takes_0 3 rfl rfl)
theorem dX3_takes_4 : decode cX3_takes 4 = .ok (.istore 7, 2) := dk_54 7 (dk_at dksX3_takes_0 4 rfl rfl)
theorem dX3_takes_6 : decode cX3_takes 6 = .ok (.iconst 0, 1) := dk_3 (dk_at dksX3_takes_0 6 rfl rfl)
theorem dX3_takes_7 : decode cX3_takes 7 = .ok (.istore 8, 2) := dk_54 8 (dk_at dksX3_takes_0 7 rfl rfl)
theorem dX3_takes_9 : decode cX3_takes 9 = .ok (.iload 8, 2) := dk_21 8 (dk_at dksX3_takes_0 9 rfl rfl)
theorem dX3_takes_11 : decode cX3_takes 11 = .ok (.aload_n 0, 1) := dk_42 (dk_at dksX3_takes_0 11 rfl rfl)
theorem dX3_takes_12 : decode cX3_takes 12 = .ok (.getfield 20, 3) := dk_180 0 20 (dk_at dksX3_takes_0 12 rfl rfl)
theorem dX3_takes_15 : decode cX3_takes 15 = .ok (.iload_n 1, 1) := dk_27 (dk_at dksX3_takes_0 15 rfl rfl)
theorem dX3_takes_16 : decode cX3_takes 16 = .ok (.iaload, 1) := dk_46 (dk_at dksX3_takes_0 16 rfl rfl)
theorem dX3_takes_17 : decode cX3_takes 17 = .ok (.if_icmp .ge 115, 3) := dk_162 0 115 (dk_at dksX3_takes_0 17 rfl rfl)
theorem dX3_takes_20 : decode cX3_takes 20 = .ok (.aload_n 0, 1) := dk_42 (dk_at dksX3_takes_0 20 rfl rfl)
theorem dX3_takes_21 : decode cX3_takes 21 = .ok (.iload_n 1, 1) := dk_27 (dk_at dksX3_takes_0 21 rfl rfl)
theorem dX3_takes_22 : decode cX3_takes 22 = .ok (.invokevirtual 356, 3) := dk_182 1 100 (dk_at dksX3_takes_1 0 rfl rfl)
theorem dX3_takes_25 : decode cX3_takes 25 = .ok (.ifCond .ne 107, 3) := dk_154 0 107 (dk_at dksX3_takes_1 3 rfl rfl)
theorem dX3_takes_28 : decode cX3_takes 28 = .ok (.aload_n 0, 1) := dk_42 (dk_at dksX3_takes_1 6 rfl rfl)
theorem dX3_takes_29 : decode cX3_takes 29 = .ok (.getfield 23, 3) := dk_180 0 23 (dk_at dksX3_takes_1 7 rfl rfl)
theorem dX3_takes_32 : decode cX3_takes 32 = .ok (.bipush 8, 2) := dk_16 8 (dk_at dksX3_takes_1 10 rfl rfl)
theorem dX3_takes_34 : decode cX3_takes 34 = .ok (.iload_n 1, 1) := dk_27 (dk_at dksX3_takes_1 12 rfl rfl)
theorem dX3_takes_35 : decode cX3_takes 35 = .ok (.imul, 1) := dk_104 (dk_at dksX3_takes_1 13 rfl rfl)
theorem dX3_takes_36 : decode cX3_takes 36 = .ok (.iload 8, 2) := dk_21 8 (dk_at dksX3_takes_1 14 rfl rfl)
theorem dX3_takes_38 : decode cX3_takes 38 = .ok (.iadd, 1) := dk_96 (dk_at dksX3_takes_1 16 rfl rfl)
theorem dX3_takes_39 : decode cX3_takes 39 = .ok (.iaload, 1) := dk_46 (dk_at dksX3_takes_1 17 rfl rfl)
theorem dX3_takes_40 : decode cX3_takes 40 = .ok (.istore 9, 2) := dk_54 9 (dk_at dksX3_takes_1 18 rfl rfl)
theorem dX3_takes_42 : decode cX3_takes 42 = .ok (.iload 6, 2) := dk_21 6 (dk_at dksX3_takes_1 20 rfl rfl)
theorem dX3_takes_44 : decode cX3_takes 44 = .ok (.ifCond .eq 49, 3) := dk_153 0 49 (dk_at dksX3_takes_2 0 rfl rfl)
theorem dX3_takes_47 : decode cX3_takes 47 = .ok (.aload_n 0, 1) := dk_42 (dk_at dksX3_takes_2 3 rfl rfl)
theorem dX3_takes_48 : decode cX3_takes 48 = .ok (.getfield 96, 3) := dk_180 0 96 (dk_at dksX3_takes_2 4 rfl rfl)
theorem dX3_takes_51 : decode cX3_takes 51 = .ok (.bipush 8, 2) := dk_16 8 (dk_at dksX3_takes_2 7 rfl rfl)
theorem dX3_takes_53 : decode cX3_takes 53 = .ok (.iload_n 1, 1) := dk_27 (dk_at dksX3_takes_2 9 rfl rfl)
theorem dX3_takes_54 : decode cX3_takes 54 = .ok (.imul, 1) := dk_104 (dk_at dksX3_takes_2 10 rfl rfl)
theorem dX3_takes_55 : decode cX3_takes 55 = .ok (.iload 8, 2) := dk_21 8 (dk_at dksX3_takes_2 11 rfl rfl)
theorem dX3_takes_57 : decode cX3_takes 57 = .ok (.iadd, 1) := dk_96 (dk_at dksX3_takes_2 13 rfl rfl)
theorem dX3_takes_58 : decode cX3_takes 58 = .ok (.iaload, 1) := dk_46 (dk_at dksX3_takes_2 14 rfl rfl)
theorem dX3_takes_59 : decode cX3_takes 59 = .ok (.aload 4, 2) := dk_25 4 (dk_at dksX3_takes_2 15 rfl rfl)
theorem dX3_takes_61 : decode cX3_takes 61 = .ok (.iload 5, 2) := dk_21 5 (dk_at dksX3_takes_2 17 rfl rfl)
theorem dX3_takes_63 : decode cX3_takes 63 = .ok (.iload 9, 2) := dk_21 9 (dk_at dksX3_takes_2 19 rfl rfl)
theorem dX3_takes_65 : decode cX3_takes 65 = .ok (.iadd, 1) := dk_96 (dk_at dksX3_takes_2 21 rfl rfl)
theorem dX3_takes_66 : decode cX3_takes 66 = .ok (.iaload, 1) := dk_46 (dk_at dksX3_takes_2 22 rfl rfl)
theorem dX3_takes_67 : decode cX3_takes 67 = .ok (.if_icmp .ge 26, 3) := dk_162 0 26 (dk_at dksX3_takes_3 0 rfl rfl)
theorem dX3_takes_70 : decode cX3_takes 70 = .ok (.aload 4, 2) := dk_25 4 (dk_at dksX3_takes_3 3 rfl rfl)
theorem dX3_takes_72 : decode cX3_takes 72 = .ok (.iload 5, 2) := dk_21 5 (dk_at dksX3_takes_3 5 rfl rfl)
theorem dX3_takes_74 : decode cX3_takes 74 = .ok (.iload 9, 2) := dk_21 9 (dk_at dksX3_takes_3 7 rfl rfl)
theorem dX3_takes_76 : decode cX3_takes 76 = .ok (.iadd, 1) := dk_96 (dk_at dksX3_takes_3 9 rfl rfl)
theorem dX3_takes_77 : decode cX3_takes 77 = .ok (.aload_n 0, 1) := dk_42 (dk_at dksX3_takes_3 10 rfl rfl)
theorem dX3_takes_78 : decode cX3_takes 78 = .ok (.getfield 96, 3) := dk_180 0 96 (dk_at dksX3_takes_3 11 rfl rfl)
theorem dX3_takes_81 : decode cX3_takes 81 = .ok (.bipush 8, 2) := dk_16 8 (dk_at dksX3_takes_3 14 rfl rfl)
theorem dX3_takes_83 : decode cX3_takes 83 = .ok (.iload_n 1, 1) := dk_27 (dk_at dksX3_takes_3 16 rfl rfl)
theorem dX3_takes_84 : decode cX3_takes 84 = .ok (.imul, 1) := dk_104 (dk_at dksX3_takes_3 17 rfl rfl)
theorem dX3_takes_85 : decode cX3_takes 85 = .ok (.iload 8, 2) := dk_21 8 (dk_at dksX3_takes_3 18 rfl rfl)
theorem dX3_takes_87 : decode cX3_takes 87 = .ok (.iadd, 1) := dk_96 (dk_at dksX3_takes_3 20 rfl rfl)
theorem dX3_takes_88 : decode cX3_takes 88 = .ok (.iaload, 1) := dk_46 (dk_at dksX3_takes_3 21 rfl rfl)
theorem dX3_takes_89 : decode cX3_takes 89 = .ok (.iastore, 1) := dk_79 (dk_at dksX3_takes_3 22 rfl rfl)
theorem dX3_takes_90 : decode cX3_takes 90 = .ok (.iconst 1, 1) := dk_4 (dk_at dksX3_takes_3 23 rfl rfl)
theorem dX3_takes_91 : decode cX3_takes 91 = .ok (.istore 7, 2) := dk_54 7 (dk_at dksX3_takes_4 0 rfl rfl)
theorem dX3_takes_93 : decode cX3_takes 93 = .ok (.iload 6, 2) := dk_21 6 (dk_at dksX3_takes_4 2 rfl rfl)
theorem dX3_takes_95 : decode cX3_takes 95 = .ok (.ifCond .ne 24, 3) := dk_154 0 24 (dk_at dksX3_takes_4 4 rfl rfl)
theorem dX3_takes_98 : decode cX3_takes 98 = .ok (.aload_n 2, 1) := dk_44 (dk_at dksX3_takes_4 7 rfl rfl)
theorem dX3_takes_99 : decode cX3_takes 99 = .ok (.iload_n 3, 1) := dk_29 (dk_at dksX3_takes_4 8 rfl rfl)
theorem dX3_takes_100 : decode cX3_takes 100 = .ok (.iload 9, 2) := dk_21 9 (dk_at dksX3_takes_4 9 rfl rfl)
theorem dX3_takes_102 : decode cX3_takes 102 = .ok (.iadd, 1) := dk_96 (dk_at dksX3_takes_4 11 rfl rfl)
theorem dX3_takes_103 : decode cX3_takes 103 = .ok (.iaload, 1) := dk_46 (dk_at dksX3_takes_4 12 rfl rfl)
theorem dX3_takes_104 : decode cX3_takes 104 = .ok (.aload_n 0, 1) := dk_42 (dk_at dksX3_takes_4 13 rfl rfl)
theorem dX3_takes_105 : decode cX3_takes 105 = .ok (.getfield 99, 3) := dk_180 0 99 (dk_at dksX3_takes_4 14 rfl rfl)
theorem dX3_takes_108 : decode cX3_takes 108 = .ok (.bipush 8, 2) := dk_16 8 (dk_at dksX3_takes_4 17 rfl rfl)
theorem dX3_takes_110 : decode cX3_takes 110 = .ok (.iload_n 1, 1) := dk_27 (dk_at dksX3_takes_4 19 rfl rfl)
theorem dX3_takes_111 : decode cX3_takes 111 = .ok (.imul, 1) := dk_104 (dk_at dksX3_takes_4 20 rfl rfl)
theorem dX3_takes_112 : decode cX3_takes 112 = .ok (.iload 8, 2) := dk_21 8 (dk_at dksX3_takes_4 21 rfl rfl)
theorem dX3_takes_114 : decode cX3_takes 114 = .ok (.iadd, 1) := dk_96 (dk_at dksX3_takes_4 23 rfl rfl)
theorem dX3_takes_115 : decode cX3_takes 115 = .ok (.iaload, 1) := dk_46 (dk_at dksX3_takes_5 0 rfl rfl)
theorem dX3_takes_116 : decode cX3_takes 116 = .ok (.if_icmp .gt 7, 3) := dk_163 0 7 (dk_at dksX3_takes_5 1 rfl rfl)
theorem dX3_takes_119 : decode cX3_takes 119 = .ok (.iconst 1, 1) := dk_4 (dk_at dksX3_takes_5 4 rfl rfl)
theorem dX3_takes_120 : decode cX3_takes 120 = .ok (.goto 4, 3) := dk_167 0 4 (dk_at dksX3_takes_5 5 rfl rfl)
theorem dX3_takes_123 : decode cX3_takes 123 = .ok (.iconst 0, 1) := dk_3 (dk_at dksX3_takes_5 8 rfl rfl)
theorem dX3_takes_124 : decode cX3_takes 124 = .ok (.istore 6, 2) := dk_54 6 (dk_at dksX3_takes_5 9 rfl rfl)
theorem dX3_takes_126 : decode cX3_takes 126 = .ok (.iinc 8 1, 3) := dk_132 8 1 (dk_at dksX3_takes_5 11 rfl rfl)
theorem dX3_takes_129 : decode cX3_takes 129 = .ok (.goto (-120), 3) := dk_167 255 136 (dk_at dksX3_takes_5 14 rfl rfl)
theorem dX3_takes_132 : decode cX3_takes 132 = .ok (.iload 7, 2) := dk_21 7 (dk_at dksX3_takes_5 17 rfl rfl)
theorem dX3_takes_134 : decode cX3_takes 134 = .ok (.ireturn, 1) := dk_172 (dk_at dksX3_takes_5 19 rfl rfl)
abbrev cX3_homeOf : ByteArray := prog_14_method_55_code
def yX3_homeOf : MethodName := ⟨RX3, "homeOf", "(I)I"⟩
def dkwX3_homeOf_0 : List UInt8 := [42, 180, 0, 26, 7, 27, 104, 4, 96, 46, 172]
abbrev dktX3_homeOf_0 : List UInt8 := dkwX3_homeOf_0 ++ []
theorem dksX3_homeOf_0 : cX3_homeOf.data.toList.drop 0 = dktX3_homeOf_0 := by decide +kernel
theorem dX3_homeOf_0 : decode cX3_homeOf 0 = .ok (.aload_n 0, 1) := dk_42 (dk_at dksX3_homeOf_0 0 rfl rfl)
theorem dX3_homeOf_1 : decode cX3_homeOf 1 = .ok (.getfield 26, 3) := dk_180 0 26 (dk_at dksX3_homeOf_0 1 rfl rfl)
theorem dX3_homeOf_4 : decode cX3_homeOf 4 = .ok (.iconst 4, 1) := dk_7 (dk_at dksX3_homeOf_0 4 rfl rfl)
theorem dX3_homeOf_5 : decode cX3_homeOf 5 = .ok (.iload_n 1, 1) := dk_27 (dk_at dksX3_homeOf_0 5 rfl rfl)
theorem dX3_homeOf_6 : decode cX3_homeOf 6 = .ok (.imul, 1) := dk_104 (dk_at dksX3_homeOf_0 6 rfl rfl)
theorem dX3_homeOf_7 : decode cX3_homeOf 7 = .ok (.iconst 1, 1) := dk_4 (dk_at dksX3_homeOf_0 7 rfl rfl)
theorem dX3_homeOf_8 : decode cX3_homeOf 8 = .ok (.iadd, 1) := dk_96 (dk_at dksX3_homeOf_0 8 rfl rfl)
theorem dX3_homeOf_9 : decode cX3_homeOf 9 = .ok (.iaload, 1) := dk_46 (dk_at dksX3_homeOf_0 9 rfl rfl)
theorem dX3_homeOf_10 : decode cX3_homeOf 10 = .ok (.ireturn, 1) := dk_172 (dk_at dksX3_homeOf_0 10 rfl rfl)
abbrev cX3_roof : ByteArray := prog_14_method_64_code
def yX3_roof : MethodName := ⟨RX3, "roof", "(II)I"⟩
def dkwX3_roof_7 : List UInt8 := [158, 0, 7, 4, 167, 0, 4, 3, 96, 62, 132, 4, 1, 167, 255, 221, 29, 172]
abbrev dktX3_roof_7 : List UInt8 := dkwX3_roof_7 ++ []
def dkwX3_roof_6 : List UInt8 := [21, 4, 42, 180, 1, 57, 162, 0, 32, 29, 42, 180, 0, 13, 16, 10, 27, 104, 21, 4, 96, 46]
abbrev dktX3_roof_6 : List UInt8 := dkwX3_roof_6 ++ dktX3_roof_7
def dkwX3_roof_5 : List UInt8 := [160, 0, 10, 4, 21, 4, 120, 167, 0, 4, 3, 128, 62, 132, 4, 1, 167, 255, 223, 29, 172, 3, 54, 4]
abbrev dktX3_roof_5 : List UInt8 := dkwX3_roof_5 ++ dktX3_roof_6
def dkwX3_roof_4 : List UInt8 := [27, 46, 172, 3, 54, 4, 21, 4, 42, 180, 1, 66, 162, 0, 30, 29, 42, 21, 4, 182, 1, 120, 27]
abbrev dktX3_roof_4 : List UInt8 := dkwX3_roof_4 ++ dktX3_roof_5
def dkwX3_roof_3 : List UInt8 := [42, 180, 0, 78, 7, 27, 96, 46, 172, 5, 42, 180, 0, 78, 7, 27, 96, 46, 104, 172, 42, 180, 0, 102]
abbrev dktX3_roof_3 : List UInt8 := dkwX3_roof_3 ++ dktX3_roof_4
def dkwX3_roof_2 : List UInt8 := [170, 0, 0, 0, 97, 0, 0, 0, 0, 0, 0, 0, 3, 0, 0, 0, 29, 0, 0, 0, 38, 0, 0, 0, 49, 0, 0, 0, 56]
abbrev dktX3_roof_2 : List UInt8 := dkwX3_roof_2 ++ dktX3_roof_3
def dkwX3_roof_1 : List UInt8 := [42, 182, 1, 123, 3, 62, 28]
abbrev dktX3_roof_1 : List UInt8 := dkwX3_roof_1 ++ dktX3_roof_2
def dkwX3_roof_0 : List UInt8 := [42, 3, 181, 0, 147, 42, 27, 182, 1, 136, 153, 0, 12, 42, 28, 7, 182, 1, 139, 154, 0, 5, 3, 172]
abbrev dktX3_roof_0 : List UInt8 := dkwX3_roof_0 ++ dktX3_roof_1
theorem dksX3_roof_0 : cX3_roof.data.toList.drop 0 = dktX3_roof_0 := by decide +kernel
theorem dksX3_roof_1 : cX3_roof.data.toList.drop 24 = dktX3_roof_1 := dk_seg dksX3_roof_0 24 rfl rfl
theorem dksX3_roof_2 : cX3_roof.data.toList.drop 31 = dktX3_roof_2 := dk_seg dksX3_roof_1 7 rfl rfl
theorem dksX3_roof_3 : cX3_roof.data.toList.drop 60 = dktX3_roof_3 := dk_seg dksX3_roof_2 29 rfl rfl
theorem dksX3_roof_4 : cX3_roof.data.toList.drop 84 = dktX3_roof_4 := dk_seg dksX3_roof_3 24 rfl rfl
theorem dksX3_roof_5 : cX3_roof.data.toList.drop 107 = dktX3_roof_5 := dk_seg dksX3_roof_4 23 rfl rfl
theorem dksX3_roof_6 : cX3_roof.data.toList.drop 131 = dktX3_roof_6 := dk_seg dksX3_roof_5 24 rfl rfl
theorem dksX3_roof_7 : cX3_roof.data.toList.drop 153 = dktX3_roof_7 := dk_seg dksX3_roof_6 22 rfl rfl
theorem dX3_roof_0 : decode cX3_roof 0 = .ok (.aload_n 0, 1) := dk_42 (dk_at dksX3_roof_0 0 rfl rfl)
theorem dX3_roof_1 : decode cX3_roof 1 = .ok (.iconst 0, 1) := dk_3 (dk_at dksX3_roof_0 1 rfl rfl)
theorem dX3_roof_2 : decode cX3_roof 2 = .ok (.putfield 147, 3) := dk_181 0 147 (dk_at dksX3_roof_0 2 rfl rfl)
theorem dX3_roof_5 : decode cX3_roof 5 = .ok (.aload_n 0, 1) := dk_42 (dk_at dksX3_roof_0 5 rfl rfl)
theorem dX3_roof_6 : decode cX3_roof 6 = .ok (.iload_n 1, 1) := dk_27 (dk_at dksX3_roof_0 6 rfl rfl)
theorem dX3_roof_7 : decode cX3_roof 7 = .ok (.invokevirtual 392, 3) := dk_182 1 136 (dk_at dksX3_roof_0 7 rfl rfl)
theorem dX3_roof_10 : decode cX3_roof 10 = .ok (.ifCond .eq 12, 3) := dk_153 0 12 (dk_at dksX3_roof_0 10 rfl rfl)
theorem dX3_roof_13 : decode cX3_roof 13 = .ok (.aload_n 0, 1) := dk_42 (dk_at dksX3_roof_0 13 rfl rfl)
theorem dX3_roof_14 : decode cX3_roof 14 = .ok (.iload_n 2, 1) := dk_28 (dk_at dksX3_roof_0 14 rfl rfl)
theorem dX3_roof_15 : decode cX3_roof 15 = .ok (.iconst 4, 1) := dk_7 (dk_at dksX3_roof_0 15 rfl rfl)
theorem dX3_roof_16 : decode cX3_roof 16 = .ok (.invokevirtual 395, 3) := dk_182 1 139 (dk_at dksX3_roof_0 16 rfl rfl)
theorem dX3_roof_19 : decode cX3_roof 19 = .ok (.ifCond .ne 5, 3) := dk_154 0 5 (dk_at dksX3_roof_0 19 rfl rfl)
theorem dX3_roof_22 : decode cX3_roof 22 = .ok (.iconst 0, 1) := dk_3 (dk_at dksX3_roof_0 22 rfl rfl)
theorem dX3_roof_23 : decode cX3_roof 23 = .ok (.ireturn, 1) := dk_172 (dk_at dksX3_roof_0 23 rfl rfl)
theorem dX3_roof_24 : decode cX3_roof 24 = .ok (.aload_n 0, 1) := dk_42 (dk_at dksX3_roof_1 0 rfl rfl)
theorem dX3_roof_25 : decode cX3_roof 25 = .ok (.invokevirtual 379, 3) := dk_182 1 123 (dk_at dksX3_roof_1 1 rfl rfl)
theorem dX3_roof_28 : decode cX3_roof 28 = .ok (.iconst 0, 1) := dk_3 (dk_at dksX3_roof_1 4 rfl rfl)
theorem dX3_roof_29 : decode cX3_roof 29 = .ok (.istore_n 3, 1) := dk_62 (dk_at dksX3_roof_1 5 rfl rfl)
theorem dX3_roof_30 : decode cX3_roof 30 = .ok (.iload_n 2, 1) := dk_28 (dk_at dksX3_roof_1 6 rfl rfl)
theorem dX3_roof_31 : decode cX3_roof 31 = .ok (.tableswitch 97 0 3 #[29, 38, 49, 56], 29) := by decide +kernel
theorem dX3_roof_60 : decode cX3_roof 60 = .ok (.aload_n 0, 1) := dk_42 (dk_at dksX3_roof_3 0 rfl rfl)
theorem dX3_roof_61 : decode cX3_roof 61 = .ok (.getfield 78, 3) := dk_180 0 78 (dk_at dksX3_roof_3 1 rfl rfl)
theorem dX3_roof_64 : decode cX3_roof 64 = .ok (.iconst 4, 1) := dk_7 (dk_at dksX3_roof_3 4 rfl rfl)
theorem dX3_roof_65 : decode cX3_roof 65 = .ok (.iload_n 1, 1) := dk_27 (dk_at dksX3_roof_3 5 rfl rfl)
theorem dX3_roof_66 : decode cX3_roof 66 = .ok (.iadd, 1) := dk_96 (dk_at dksX3_roof_3 6 rfl rfl)
theorem dX3_roof_67 : decode cX3_roof 67 = .ok (.iaload, 1) := dk_46 (dk_at dksX3_roof_3 7 rfl rfl)
theorem dX3_roof_68 : decode cX3_roof 68 = .ok (.ireturn, 1) := dk_172 (dk_at dksX3_roof_3 8 rfl rfl)
theorem dX3_roof_69 : decode cX3_roof 69 = .ok (.iconst 2, 1) := dk_5 (dk_at dksX3_roof_3 9 rfl rfl)
theorem dX3_roof_70 : decode cX3_roof 70 = .ok (.aload_n 0, 1) := dk_42 (dk_at dksX3_roof_3 10 rfl rfl)
theorem dX3_roof_71 : decode cX3_roof 71 = .ok (.getfield 78, 3) := dk_180 0 78 (dk_at dksX3_roof_3 11 rfl rfl)
theorem dX3_roof_74 : decode cX3_roof 74 = .ok (.iconst 4, 1) := dk_7 (dk_at dksX3_roof_3 14 rfl rfl)
theorem dX3_roof_75 : decode cX3_roof 75 = .ok (.iload_n 1, 1) := dk_27 (dk_at dksX3_roof_3 15 rfl rfl)
theorem dX3_roof_76 : decode cX3_roof 76 = .ok (.iadd, 1) := dk_96 (dk_at dksX3_roof_3 16 rfl rfl)
theorem dX3_roof_77 : decode cX3_roof 77 = .ok (.iaload, 1) := dk_46 (dk_at dksX3_roof_3 17 rfl rfl)
theorem dX3_roof_78 : decode cX3_roof 78 = .ok (.imul, 1) := dk_104 (dk_at dksX3_roof_3 18 rfl rfl)
theorem dX3_roof_79 : decode cX3_roof 79 = .ok (.ireturn, 1) := dk_172 (dk_at dksX3_roof_3 19 rfl rfl)
theorem dX3_roof_80 : decode cX3_roof 80 = .ok (.aload_n 0, 1) := dk_42 (dk_at dksX3_roof_3 20 rfl rfl)
theorem dX3_roof_81 : decode cX3_roof 81 = .ok (.getfield 102, 3) := dk_180 0 102 (dk_at dksX3_roof_3 21 rfl rfl)
theorem dX3_roof_84 : decode cX3_roof 84 = .ok (.iload_n 1, 1) := dk_27 (dk_at dksX3_roof_4 0 rfl rfl)
theorem dX3_roof_85 : decode cX3_roof 85 = .ok (.iaload, 1) := dk_46 (dk_at dksX3_roof_4 1 rfl rfl)
theorem dX3_roof_86 : decode cX3_roof 86 = .ok (.ireturn, 1) := dk_172 (dk_at dksX3_roof_4 2 rfl rfl)
theorem dX3_roof_87 : decode cX3_roof 87 = .ok (.iconst 0, 1) := dk_3 (dk_at dksX3_roof_4 3 rfl rfl)
theorem dX3_roof_88 : decode cX3_roof 88 = .ok (.istore 4, 2) := dk_54 4 (dk_at dksX3_roof_4 4 rfl rfl)
theorem dX3_roof_90 : decode cX3_roof 90 = .ok (.iload 4, 2) := dk_21 4 (dk_at dksX3_roof_4 6 rfl rfl)
theorem dX3_roof_92 : decode cX3_roof 92 = .ok (.aload_n 0, 1) := dk_42 (dk_at dksX3_roof_4 8 rfl rfl)
theorem dX3_roof_93 : decode cX3_roof 93 = .ok (.getfield 322, 3) := dk_180 1 66 (dk_at dksX3_roof_4 9 rfl rfl)
theorem dX3_roof_96 : decode cX3_roof 96 = .ok (.if_icmp .ge 30, 3) := dk_162 0 30 (dk_at dksX3_roof_4 12 rfl rfl)
theorem dX3_roof_99 : decode cX3_roof 99 = .ok (.iload_n 3, 1) := dk_29 (dk_at dksX3_roof_4 15 rfl rfl)
theorem dX3_roof_100 : decode cX3_roof 100 = .ok (.aload_n 0, 1) := dk_42 (dk_at dksX3_roof_4 16 rfl rfl)
theorem dX3_roof_101 : decode cX3_roof 101 = .ok (.iload 4, 2) := dk_21 4 (dk_at dksX3_roof_4 17 rfl rfl)
theorem dX3_roof_103 : decode cX3_roof 103 = .ok (.invokevirtual 376, 3) := dk_182 1 120 (dk_at dksX3_roof_4 19 rfl rfl)
theorem dX3_roof_106 : decode cX3_roof 106 = .ok (.iload_n 1, 1) := dk_27 (dk_at dksX3_roof_4 22 rfl rfl)
theorem dX3_roof_107 : decode cX3_roof 107 = .ok (.if_icmp .ne 10, 3) := dk_160 0 10 (dk_at dksX3_roof_5 0 rfl rfl)
theorem dX3_roof_110 : decode cX3_roof 110 = .ok (.iconst 1, 1) := dk_4 (dk_at dksX3_roof_5 3 rfl rfl)
theorem dX3_roof_111 : decode cX3_roof 111 = .ok (.iload 4, 2) := dk_21 4 (dk_at dksX3_roof_5 4 rfl rfl)
theorem dX3_roof_113 : decode cX3_roof 113 = .ok (.ishl, 1) := dk_120 (dk_at dksX3_roof_5 6 rfl rfl)
theorem dX3_roof_114 : decode cX3_roof 114 = .ok (.goto 4, 3) := dk_167 0 4 (dk_at dksX3_roof_5 7 rfl rfl)
theorem dX3_roof_117 : decode cX3_roof 117 = .ok (.iconst 0, 1) := dk_3 (dk_at dksX3_roof_5 10 rfl rfl)
theorem dX3_roof_118 : decode cX3_roof 118 = .ok (.ior, 1) := dk_128 (dk_at dksX3_roof_5 11 rfl rfl)
theorem dX3_roof_119 : decode cX3_roof 119 = .ok (.istore_n 3, 1) := dk_62 (dk_at dksX3_roof_5 12 rfl rfl)
theorem dX3_roof_120 : decode cX3_roof 120 = .ok (.iinc 4 1, 3) := dk_132 4 1 (dk_at dksX3_roof_5 13 rfl rfl)
theorem dX3_roof_123 : decode cX3_roof 123 = .ok (.goto (-33), 3) := dk_167 255 223 (dk_at dksX3_roof_5 16 rfl rfl)
theorem dX3_roof_126 : decode cX3_roof 126 = .ok (.iload_n 3, 1) := dk_29 (dk_at dksX3_roof_5 19 rfl rfl)
theorem dX3_roof_127 : decode cX3_roof 127 = .ok (.ireturn, 1) := dk_172 (dk_at dksX3_roof_5 20 rfl rfl)
theorem dX3_roof_128 : decode cX3_roof 128 = .ok (.iconst 0, 1) := dk_3 (dk_at dksX3_roof_5 21 rfl rfl)
theorem dX3_roof_129 : decode cX3_roof 129 = .ok (.istore 4, 2) := dk_54 4 (dk_at dksX3_roof_5 22 rfl rfl)
theorem dX3_roof_131 : decode cX3_roof 131 = .ok (.iload 4, 2) := dk_21 4 (dk_at dksX3_roof_6 0 rfl rfl)
theorem dX3_roof_133 : decode cX3_roof 133 = .ok (.aload_n 0, 1) := dk_42 (dk_at dksX3_roof_6 2 rfl rfl)
theorem dX3_roof_134 : decode cX3_roof 134 = .ok (.getfield 313, 3) := dk_180 1 57 (dk_at dksX3_roof_6 3 rfl rfl)
theorem dX3_roof_137 : decode cX3_roof 137 = .ok (.if_icmp .ge 32, 3) := dk_162 0 32 (dk_at dksX3_roof_6 6 rfl rfl)
theorem dX3_roof_140 : decode cX3_roof 140 = .ok (.iload_n 3, 1) := dk_29 (dk_at dksX3_roof_6 9 rfl rfl)
theorem dX3_roof_141 : decode cX3_roof 141 = .ok (.aload_n 0, 1) := dk_42 (dk_at dksX3_roof_6 10 rfl rfl)
theorem dX3_roof_142 : decode cX3_roof 142 = .ok (.getfield 13, 3) := dk_180 0 13 (dk_at dksX3_roof_6 11 rfl rfl)
theorem dX3_roof_145 : decode cX3_roof 145 = .ok (.bipush 10, 2) := dk_16 10 (dk_at dksX3_roof_6 14 rfl rfl)
theorem dX3_roof_147 : decode cX3_roof 147 = .ok (.iload_n 1, 1) := dk_27 (dk_at dksX3_roof_6 16 rfl rfl)
theorem dX3_roof_148 : decode cX3_roof 148 = .ok (.imul, 1) := dk_104 (dk_at dksX3_roof_6 17 rfl rfl)
theorem dX3_roof_149 : decode cX3_roof 149 = .ok (.iload 4, 2) := dk_21 4 (dk_at dksX3_roof_6 18 rfl rfl)
theorem dX3_roof_151 : decode cX3_roof 151 = .ok (.iadd, 1) := dk_96 (dk_at dksX3_roof_6 20 rfl rfl)
theorem dX3_roof_152 : decode cX3_roof 152 = .ok (.iaload, 1) := dk_46 (dk_at dksX3_roof_6 21 rfl rfl)
theorem dX3_roof_153 : decode cX3_roof 153 = .ok (.ifCond .le 7, 3) := dk_158 0 7 (dk_at dksX3_roof_7 0 rfl rfl)
theorem dX3_roof_156 : decode cX3_roof 156 = .ok (.iconst 1, 1) := dk_4 (dk_at dksX3_roof_7 3 rfl rfl)
theorem dX3_roof_157 : decode cX3_roof 157 = .ok (.goto 4, 3) := dk_167 0 4 (dk_at dksX3_roof_7 4 rfl rfl)
theorem dX3_roof_160 : decode cX3_roof 160 = .ok (.iconst 0, 1) := dk_3 (dk_at dksX3_roof_7 7 rfl rfl)
theorem dX3_roof_161 : decode cX3_roof 161 = .ok (.iadd, 1) := dk_96 (dk_at dksX3_roof_7 8 rfl rfl)
theorem dX3_roof_162 : decode cX3_roof 162 = .ok (.istore_n 3, 1) := dk_62 (dk_at dksX3_roof_7 9 rfl rfl)
theorem dX3_roof_163 : decode cX3_roof 163 = .ok (.iinc 4 1, 3) := dk_132 4 1 (dk_at dksX3_roof_7 10 rfl rfl)
theorem dX3_roof_166 : decode cX3_roof 166 = .ok (.goto (-35), 3) := dk_167 255 221 (dk_at dksX3_roof_7 13 rfl rfl)
theorem dX3_roof_169 : decode cX3_roof 169 = .ok (.iload_n 3, 1) := dk_29 (dk_at dksX3_roof_7 16 rfl rfl)
theorem dX3_roof_170 : decode cX3_roof 170 = .ok (.ireturn, 1) := dk_172 (dk_at dksX3_roof_7 17 rfl rfl)
abbrev cX3_isRoof : ByteArray := prog_14_method_60_code
def yX3_isRoof : MethodName := ⟨RX3, "isRoof", "(I)Z"⟩
def dkwX3_isRoof_0 : List UInt8 := [42, 27, 155, 0, 15, 27, 42, 180, 1, 57, 162, 0, 7, 4, 167, 0, 4, 3, 4, 182, 1, 50, 172]
abbrev dktX3_isRoof_0 : List UInt8 := dkwX3_isRoof_0 ++ []
theorem dksX3_isRoof_0 : cX3_isRoof.data.toList.drop 0 = dktX3_isRoof_0 := by decide +kernel
theorem dX3_isRoof_0 : decode cX3_isRoof 0 = .ok (.aload_n 0, 1) := dk_42 (dk_at dksX3_isRoof_0 0 rfl rfl)
theorem dX3_isRoof_1 : decode cX3_isRoof 1 = .ok (.iload_n 1, 1) := dk_27 (dk_at dksX3_isRoof_0 1 rfl rfl)
theorem dX3_isRoof_2 : decode cX3_isRoof 2 = .ok (.ifCond .lt 15, 3) := dk_155 0 15 (dk_at dksX3_isRoof_0 2 rfl rfl)
theorem dX3_isRoof_5 : decode cX3_isRoof 5 = .ok (.iload_n 1, 1) := dk_27 (dk_at dksX3_isRoof_0 5 rfl rfl)
theorem dX3_isRoof_6 : decode cX3_isRoof 6 = .ok (.aload_n 0, 1) := dk_42 (dk_at dksX3_isRoof_0 6 rfl rfl)
theorem dX3_isRoof_7 : decode cX3_isRoof 7 = .ok (.getfield 313, 3) := dk_180 1 57 (dk_at dksX3_isRoof_0 7 rfl rfl)
theorem dX3_isRoof_10 : decode cX3_isRoof 10 = .ok (.if_icmp .ge 7, 3) := dk_162 0 7 (dk_at dksX3_isRoof_0 10 rfl rfl)
theorem dX3_isRoof_13 : decode cX3_isRoof 13 = .ok (.iconst 1, 1) := dk_4 (dk_at dksX3_isRoof_0 13 rfl rfl)
theorem dX3_isRoof_14 : decode cX3_isRoof 14 = .ok (.goto 4, 3) := dk_167 0 4 (dk_at dksX3_isRoof_0 14 rfl rfl)
theorem dX3_isRoof_17 : decode cX3_isRoof 17 = .ok (.iconst 0, 1) := dk_3 (dk_at dksX3_isRoof_0 17 rfl rfl)
theorem dX3_isRoof_18 : decode cX3_isRoof 18 = .ok (.iconst 1, 1) := dk_4 (dk_at dksX3_isRoof_0 18 rfl rfl)
theorem dX3_isRoof_19 : decode cX3_isRoof 19 = .ok (.invokevirtual 306, 3) := dk_182 1 50 (dk_at dksX3_isRoof_0 19 rfl rfl)
theorem dX3_isRoof_22 : decode cX3_isRoof 22 = .ok (.ireturn, 1) := dk_172 (dk_at dksX3_isRoof_0 22 rfl rfl)
abbrev cX3_isWhat : ByteArray := prog_14_method_63_code
def yX3_isWhat : MethodName := ⟨RX3, "isWhat", "(II)Z"⟩
def dkwX3_isWhat_0 : List UInt8 := [42, 27, 3, 28, 184, 1, 129, 4, 182, 1, 50, 172]
abbrev dktX3_isWhat_0 : List UInt8 := dkwX3_isWhat_0 ++ []
theorem dksX3_isWhat_0 : cX3_isWhat.data.toList.drop 0 = dktX3_isWhat_0 := by decide +kernel
theorem dX3_isWhat_0 : decode cX3_isWhat 0 = .ok (.aload_n 0, 1) := dk_42 (dk_at dksX3_isWhat_0 0 rfl rfl)
theorem dX3_isWhat_1 : decode cX3_isWhat 1 = .ok (.iload_n 1, 1) := dk_27 (dk_at dksX3_isWhat_0 1 rfl rfl)
theorem dX3_isWhat_2 : decode cX3_isWhat 2 = .ok (.iconst 0, 1) := dk_3 (dk_at dksX3_isWhat_0 2 rfl rfl)
theorem dX3_isWhat_3 : decode cX3_isWhat 3 = .ok (.iload_n 2, 1) := dk_28 (dk_at dksX3_isWhat_0 3 rfl rfl)
theorem dX3_isWhat_4 : decode cX3_isWhat 4 = .ok (.invokestatic 385, 3) := dk_184 1 129 (dk_at dksX3_isWhat_0 4 rfl rfl)
theorem dX3_isWhat_7 : decode cX3_isWhat 7 = .ok (.iconst 1, 1) := dk_4 (dk_at dksX3_isWhat_0 7 rfl rfl)
theorem dX3_isWhat_8 : decode cX3_isWhat 8 = .ok (.invokevirtual 306, 3) := dk_182 1 50 (dk_at dksX3_isWhat_0 8 rfl rfl)
theorem dX3_isWhat_11 : decode cX3_isWhat 11 = .ok (.ireturn, 1) := dk_172 (dk_at dksX3_isWhat_0 11 rfl rfl)
abbrev cX3_flight : ByteArray := prog_14_method_65_code
def yX3_flight : MethodName := ⟨RX3, "flight", "(II)I"⟩
def dkwX3_flight_2 : List UInt8 := [167, 0, 4, 2, 172]
abbrev dktX3_flight_2 : List UInt8 := dkwX3_flight_2 ++ []
def dkwX3_flight_1 : List UInt8 := [180, 0, 13, 16, 10, 27, 104, 28, 96, 46, 158, 0, 17, 42, 180, 0, 13, 16, 10, 27, 104, 28, 96, 46]
abbrev dktX3_flight_1 : List UInt8 := dkwX3_flight_1 ++ dktX3_flight_2
def dkwX3_flight_0 : List UInt8 := [42, 3, 181, 0, 147, 42, 27, 182, 1, 136, 153, 0, 11, 42, 28, 182, 1, 136, 154, 0, 5, 3, 172, 42]
abbrev dktX3_flight_0 : List UInt8 := dkwX3_flight_0 ++ dktX3_flight_1
theorem dksX3_flight_0 : cX3_flight.data.toList.drop 0 = dktX3_flight_0 := by decide +kernel
theorem dksX3_flight_1 : cX3_flight.data.toList.drop 24 = dktX3_flight_1 := dk_seg dksX3_flight_0 24 rfl rfl
theorem dksX3_flight_2 : cX3_flight.data.toList.drop 48 = dktX3_flight_2 := dk_seg dksX3_flight_1 24 rfl rfl
theorem dX3_flight_0 : decode cX3_flight 0 = .ok (.aload_n 0, 1) := dk_42 (dk_at dksX3_flight_0 0 rfl rfl)
theorem dX3_flight_1 : decode cX3_flight 1 = .ok (.iconst 0, 1) := dk_3 (dk_at dksX3_flight_0 1 rfl rfl)
theorem dX3_flight_2 : decode cX3_flight 2 = .ok (.putfield 147, 3) := dk_181 0 147 (dk_at dksX3_flight_0 2 rfl rfl)
theorem dX3_flight_5 : decode cX3_flight 5 = .ok (.aload_n 0, 1) := dk_42 (dk_at dksX3_flight_0 5 rfl rfl)
theorem dX3_flight_6 : decode cX3_flight 6 = .ok (.iload_n 1, 1) := dk_27 (dk_at dksX3_flight_0 6 rfl rfl)
theorem dX3_flight_7 : decode cX3_flight 7 = .ok (.invokevirtual 392, 3) := dk_182 1 136 (dk_at dksX3_flight_0 7 rfl rfl)
theorem dX3_flight_10 : decode cX3_flight 10 = .ok (.ifCond .eq 11, 3) := dk_153 0 11 (dk_at dksX3_flight_0 10 rfl rfl)
theorem dX3_flight_13 : decode cX3_flight 13 = .ok (.aload_n 0, 1) := dk_42 (dk_at dksX3_flight_0 13 rfl rfl)
theorem dX3_flight_14 : decode cX3_flight 14 = .ok (.iload_n 2, 1) := dk_28 (dk_at dksX3_flight_0 14 rfl rfl)
theorem dX3_flight_15 : decode cX3_flight 15 = .ok (.invokevirtual 392, 3) := dk_182 1 136 (dk_at dksX3_flight_0 15 rfl rfl)
theorem dX3_flight_18 : decode cX3_flight 18 = .ok (.ifCond .ne 5, 3) := dk_154 0 5 (dk_at dksX3_flight_0 18 rfl rfl)
theorem dX3_flight_21 : decode cX3_flight 21 = .ok (.iconst 0, 1) := dk_3 (dk_at dksX3_flight_0 21 rfl rfl)
theorem dX3_flight_22 : decode cX3_flight 22 = .ok (.ireturn, 1) := dk_172 (dk_at dksX3_flight_0 22 rfl rfl)
theorem dX3_flight_23 : decode cX3_flight 23 = .ok (.aload_n 0, 1) := dk_42 (dk_at dksX3_flight_0 23 rfl rfl)
theorem dX3_flight_24 : decode cX3_flight 24 = .ok (.getfield 13, 3) := dk_180 0 13 (dk_at dksX3_flight_1 0 rfl rfl)
theorem dX3_flight_27 : decode cX3_flight 27 = .ok (.bipush 10, 2) := dk_16 10 (dk_at dksX3_flight_1 3 rfl rfl)
theorem dX3_flight_29 : decode cX3_flight 29 = .ok (.iload_n 1, 1) := dk_27 (dk_at dksX3_flight_1 5 rfl rfl)
theorem dX3_flight_30 : decode cX3_flight 30 = .ok (.imul, 1) := dk_104 (dk_at dksX3_flight_1 6 rfl rfl)
theorem dX3_flight_31 : decode cX3_flight 31 = .ok (.iload_n 2, 1) := dk_28 (dk_at dksX3_flight_1 7 rfl rfl)
theorem dX3_flight_32 : decode cX3_flight 32 = .ok (.iadd, 1) := dk_96 (dk_at dksX3_flight_1 8 rfl rfl)
theorem dX3_flight_33 : decode cX3_flight 33 = .ok (.iaload, 1) := dk_46 (dk_at dksX3_flight_1 9 rfl rfl)
theorem dX3_flight_34 : decode cX3_flight 34 = .ok (.ifCond .le 17, 3) := dk_158 0 17 (dk_at dksX3_flight_1 10 rfl rfl)
theorem dX3_flight_37 : decode cX3_flight 37 = .ok (.aload_n 0, 1) := dk_42 (dk_at dksX3_flight_1 13 rfl rfl)
theorem dX3_flight_38 : decode cX3_flight 38 = .ok (.getfield 13, 3) := dk_180 0 13 (dk_at dksX3_flight_1 14 rfl rfl)
theorem dX3_flight_41 : decode cX3_flight 41 = .ok (.bipush 10, 2) := dk_16 10 (dk_at dksX3_flight_1 17 rfl rfl)
theorem dX3_flight_43 : decode cX3_flight 43 = .ok (.iload_n 1, 1) := dk_27 (dk_at dksX3_flight_1 19 rfl rfl)
theorem dX3_flight_44 : decode cX3_flight 44 = .ok (.imul, 1) := dk_104 (dk_at dksX3_flight_1 20 rfl rfl)
theorem dX3_flight_45 : decode cX3_flight 45 = .ok (.iload_n 2, 1) := dk_28 (dk_at dksX3_flight_1 21 rfl rfl)
theorem dX3_flight_46 : decode cX3_flight 46 = .ok (.iadd, 1) := dk_96 (dk_at dksX3_flight_1 22 rfl rfl)
theorem dX3_flight_47 : decode cX3_flight 47 = .ok (.iaload, 1) := dk_46 (dk_at dksX3_flight_1 23 rfl rfl)
theorem dX3_flight_48 : decode cX3_flight 48 = .ok (.goto 4, 3) := dk_167 0 4 (dk_at dksX3_flight_2 0 rfl rfl)
theorem dX3_flight_51 : decode cX3_flight 51 = .ok (.iconst (-1), 1) := dk_2 (dk_at dksX3_flight_2 3 rfl rfl)
theorem dX3_flight_52 : decode cX3_flight 52 = .ok (.ireturn, 1) := dk_172 (dk_at dksX3_flight_2 4 rfl rfl)
abbrev cX3_owl : ByteArray := prog_14_method_67_code
def yX3_owl : MethodName := ⟨RX3, "owl", "(II)I"⟩
def dkwX3_owl_5 : List UInt8 := [182, 1, 149, 172]
abbrev dktX3_owl_5 : List UInt8 := dkwX3_owl_5 ++ []
def dkwX3_owl_4 : List UInt8 := [42, 180, 0, 105, 27, 46, 172, 42, 27, 182, 1, 100, 153, 0, 7, 4, 167, 0, 4, 3, 172, 42, 27]
abbrev dktX3_owl_4 : List UInt8 := dkwX3_owl_4 ++ dktX3_owl_5
def dkwX3_owl_3 : List UInt8 := [42, 180, 0, 17, 27, 46, 172, 42, 180, 0, 78, 16, 14, 27, 96, 46, 172, 42, 180, 0, 20, 27, 46, 172]
abbrev dktX3_owl_3 : List UInt8 := dkwX3_owl_3 ++ dktX3_owl_4
def dkwX3_owl_2 : List UInt8 := [170, 0, 0, 0, 0, 0, 80, 0, 0, 0, 0, 0, 0, 0, 4, 0, 0, 0, 35, 0, 0, 0, 42, 0, 0, 0, 52, 0, 0, 0, 59, 0, 0, 0, 66]
abbrev dktX3_owl_2 : List UInt8 := dkwX3_owl_2 ++ dktX3_owl_3
def dkwX3_owl_1 : List UInt8 := [42, 182, 1, 123, 28]
abbrev dktX3_owl_1 : List UInt8 := dkwX3_owl_1 ++ dktX3_owl_2
def dkwX3_owl_0 : List UInt8 := [42, 3, 181, 0, 147, 42, 27, 182, 1, 146, 153, 0, 12, 42, 28, 8, 182, 1, 139, 154, 0, 5, 3, 172]
abbrev dktX3_owl_0 : List UInt8 := dkwX3_owl_0 ++ dktX3_owl_1
theorem dksX3_owl_0 : cX3_owl.data.toList.drop 0 = dktX3_owl_0 := by decide +kernel
theorem dksX3_owl_1 : cX3_owl.data.toList.drop 24 = dktX3_owl_1 := dk_seg dksX3_owl_0 24 rfl rfl
theorem dksX3_owl_2 : cX3_owl.data.toList.drop 29 = dktX3_owl_2 := dk_seg dksX3_owl_1 5 rfl rfl
theorem dksX3_owl_3 : cX3_owl.data.toList.drop 64 = dktX3_owl_3 := dk_seg dksX3_owl_2 35 rfl rfl
theorem dksX3_owl_4 : cX3_owl.data.toList.drop 88 = dktX3_owl_4 := dk_seg dksX3_owl_3 24 rfl rfl
theorem dksX3_owl_5 : cX3_owl.data.toList.drop 111 = dktX3_owl_5 := dk_seg dksX3_owl_4 23 rfl rfl
theorem dX3_owl_0 : decode cX3_owl 0 = .ok (.aload_n 0, 1) := dk_42 (dk_at dksX3_owl_0 0 rfl rfl)
theorem dX3_owl_1 : decode cX3_owl 1 = .ok (.iconst 0, 1) := dk_3 (dk_at dksX3_owl_0 1 rfl rfl)
theorem dX3_owl_2 : decode cX3_owl 2 = .ok (.putfield 147, 3) := dk_181 0 147 (dk_at dksX3_owl_0 2 rfl rfl)
theorem dX3_owl_5 : decode cX3_owl 5 = .ok (.aload_n 0, 1) := dk_42 (dk_at dksX3_owl_0 5 rfl rfl)
theorem dX3_owl_6 : decode cX3_owl 6 = .ok (.iload_n 1, 1) := dk_27 (dk_at dksX3_owl_0 6 rfl rfl)
theorem dX3_owl_7 : decode cX3_owl 7 = .ok (.invokevirtual 402, 3) := dk_182 1 146 (dk_at dksX3_owl_0 7 rfl rfl)
theorem dX3_owl_10 : decode cX3_owl 10 = .ok (.ifCond .eq 12, 3) := dk_153 0 12 (dk_at dksX3_owl_0 10 rfl rfl)
theorem dX3_owl_13 : decode cX3_owl 13 = .ok (.aload_n 0, 1) := dk_42 (dk_at dksX3_owl_0 13 rfl rfl)
theorem dX3_owl_14 : decode cX3_owl 14 = .ok (.iload_n 2, 1) := dk_28 (dk_at dksX3_owl_0 14 rfl rfl)
theorem dX3_owl_15 : decode cX3_owl 15 = .ok (.iconst 5, 1) := dk_8 (dk_at dksX3_owl_0 15 rfl rfl)
theorem dX3_owl_16 : decode cX3_owl 16 = .ok (.invokevirtual 395, 3) := dk_182 1 139 (dk_at dksX3_owl_0 16 rfl rfl)
theorem dX3_owl_19 : decode cX3_owl 19 = .ok (.ifCond .ne 5, 3) := dk_154 0 5 (dk_at dksX3_owl_0 19 rfl rfl)
theorem dX3_owl_22 : decode cX3_owl 22 = .ok (.iconst 0, 1) := dk_3 (dk_at dksX3_owl_0 22 rfl rfl)
theorem dX3_owl_23 : decode cX3_owl 23 = .ok (.ireturn, 1) := dk_172 (dk_at dksX3_owl_0 23 rfl rfl)
theorem dX3_owl_24 : decode cX3_owl 24 = .ok (.aload_n 0, 1) := dk_42 (dk_at dksX3_owl_1 0 rfl rfl)
theorem dX3_owl_25 : decode cX3_owl 25 = .ok (.invokevirtual 379, 3) := dk_182 1 123 (dk_at dksX3_owl_1 1 rfl rfl)
theorem dX3_owl_28 : decode cX3_owl 28 = .ok (.iload_n 2, 1) := dk_28 (dk_at dksX3_owl_1 4 rfl rfl)
theorem dX3_owl_29 : decode cX3_owl 29 = .ok (.tableswitch 80 0 4 #[35, 42, 52, 59, 66], 35) := by decide +kernel
theorem dX3_owl_64 : decode cX3_owl 64 = .ok (.aload_n 0, 1) := dk_42 (dk_at dksX3_owl_3 0 rfl rfl)
theorem dX3_owl_65 : decode cX3_owl 65 = .ok (.getfield 17, 3) := dk_180 0 17 (dk_at dksX3_owl_3 1 rfl rfl)
theorem dX3_owl_68 : decode cX3_owl 68 = .ok (.iload_n 1, 1) := dk_27 (dk_at dksX3_owl_3 4 rfl rfl)
theorem dX3_owl_69 : decode cX3_owl 69 = .ok (.iaload, 1) := dk_46 (dk_at dksX3_owl_3 5 rfl rfl)
theorem dX3_owl_70 : decode cX3_owl 70 = .ok (.ireturn, 1) := dk_172 (dk_at dksX3_owl_3 6 rfl rfl)
theorem dX3_owl_71 : decode cX3_owl 71 = .ok (.aload_n 0, 1) := dk_42 (dk_at dksX3_owl_3 7 rfl rfl)
theorem dX3_owl_72 : decode cX3_owl 72 = .ok (.getfield 78, 3) := dk_180 0 78 (dk_at dksX3_owl_3 8 rfl rfl)
theorem dX3_owl_75 : decode cX3_owl 75 = .ok (.bipush 14, 2) := dk_16 14 (dk_at dksX3_owl_3 11 rfl rfl)
theorem dX3_owl_77 : decode cX3_owl 77 = .ok (.iload_n 1, 1) := dk_27 (dk_at dksX3_owl_3 13 rfl rfl)
theorem dX3_owl_78 : decode cX3_owl 78 = .ok (.iadd, 1) := dk_96 (dk_at dksX3_owl_3 14 rfl rfl)
theorem dX3_owl_79 : decode cX3_owl 79 = .ok (.iaload, 1) := dk_46 (dk_at dksX3_owl_3 15 rfl rfl)
theorem dX3_owl_80 : decode cX3_owl 80 = .ok (.ireturn, 1) := dk_172 (dk_at dksX3_owl_3 16 rfl rfl)
theorem dX3_owl_81 : decode cX3_owl 81 = .ok (.aload_n 0, 1) := dk_42 (dk_at dksX3_owl_3 17 rfl rfl)
theorem dX3_owl_82 : decode cX3_owl 82 = .ok (.getfield 20, 3) := dk_180 0 20 (dk_at dksX3_owl_3 18 rfl rfl)
theorem dX3_owl_85 : decode cX3_owl 85 = .ok (.iload_n 1, 1) := dk_27 (dk_at dksX3_owl_3 21 rfl rfl)
theorem dX3_owl_86 : decode cX3_owl 86 = .ok (.iaload, 1) := dk_46 (dk_at dksX3_owl_3 22 rfl rfl)
theorem dX3_owl_87 : decode cX3_owl 87 = .ok (.ireturn, 1) := dk_172 (dk_at dksX3_owl_3 23 rfl rfl)
theorem dX3_owl_88 : decode cX3_owl 88 = .ok (.aload_n 0, 1) := dk_42 (dk_at dksX3_owl_4 0 rfl rfl)
theorem dX3_owl_89 : decode cX3_owl 89 = .ok (.getfield 105, 3) := dk_180 0 105 (dk_at dksX3_owl_4 1 rfl rfl)
theorem dX3_owl_92 : decode cX3_owl 92 = .ok (.iload_n 1, 1) := dk_27 (dk_at dksX3_owl_4 4 rfl rfl)
theorem dX3_owl_93 : decode cX3_owl 93 = .ok (.iaload, 1) := dk_46 (dk_at dksX3_owl_4 5 rfl rfl)
theorem dX3_owl_94 : decode cX3_owl 94 = .ok (.ireturn, 1) := dk_172 (dk_at dksX3_owl_4 6 rfl rfl)
theorem dX3_owl_95 : decode cX3_owl 95 = .ok (.aload_n 0, 1) := dk_42 (dk_at dksX3_owl_4 7 rfl rfl)
theorem dX3_owl_96 : decode cX3_owl 96 = .ok (.iload_n 1, 1) := dk_27 (dk_at dksX3_owl_4 8 rfl rfl)
theorem dX3_owl_97 : decode cX3_owl 97 = .ok (.invokevirtual 356, 3) := dk_182 1 100 (dk_at dksX3_owl_4 9 rfl rfl)
theorem dX3_owl_100 : decode cX3_owl 100 = .ok (.ifCond .eq 7, 3) := dk_153 0 7 (dk_at dksX3_owl_4 12 rfl rfl)
theorem dX3_owl_103 : decode cX3_owl 103 = .ok (.iconst 1, 1) := dk_4 (dk_at dksX3_owl_4 15 rfl rfl)
theorem dX3_owl_104 : decode cX3_owl 104 = .ok (.goto 4, 3) := dk_167 0 4 (dk_at dksX3_owl_4 16 rfl rfl)
theorem dX3_owl_107 : decode cX3_owl 107 = .ok (.iconst 0, 1) := dk_3 (dk_at dksX3_owl_4 19 rfl rfl)
theorem dX3_owl_108 : decode cX3_owl 108 = .ok (.ireturn, 1) := dk_172 (dk_at dksX3_owl_4 20 rfl rfl)
theorem dX3_owl_109 : decode cX3_owl 109 = .ok (.aload_n 0, 1) := dk_42 (dk_at dksX3_owl_4 21 rfl rfl)
theorem dX3_owl_110 : decode cX3_owl 110 = .ok (.iload_n 1, 1) := dk_27 (dk_at dksX3_owl_4 22 rfl rfl)
theorem dX3_owl_111 : decode cX3_owl 111 = .ok (.invokevirtual 405, 3) := dk_182 1 149 (dk_at dksX3_owl_5 0 rfl rfl)
theorem dX3_owl_114 : decode cX3_owl 114 = .ok (.ireturn, 1) := dk_172 (dk_at dksX3_owl_5 3 rfl rfl)
abbrev cX3_isOwl : ByteArray := prog_14_method_61_code
def yX3_isOwl : MethodName := ⟨RX3, "isOwl", "(I)Z"⟩
def dkwX3_isOwl_0 : List UInt8 := [42, 27, 155, 0, 15, 27, 42, 180, 1, 63, 162, 0, 7, 4, 167, 0, 4, 3, 4, 182, 1, 50, 172]
abbrev dktX3_isOwl_0 : List UInt8 := dkwX3_isOwl_0 ++ []
theorem dksX3_isOwl_0 : cX3_isOwl.data.toList.drop 0 = dktX3_isOwl_0 := by decide +kernel
theorem dX3_isOwl_0 : decode cX3_isOwl 0 = .ok (.aload_n 0, 1) := dk_42 (dk_at dksX3_isOwl_0 0 rfl rfl)
theorem dX3_isOwl_1 : decode cX3_isOwl 1 = .ok (.iload_n 1, 1) := dk_27 (dk_at dksX3_isOwl_0 1 rfl rfl)
theorem dX3_isOwl_2 : decode cX3_isOwl 2 = .ok (.ifCond .lt 15, 3) := dk_155 0 15 (dk_at dksX3_isOwl_0 2 rfl rfl)
theorem dX3_isOwl_5 : decode cX3_isOwl 5 = .ok (.iload_n 1, 1) := dk_27 (dk_at dksX3_isOwl_0 5 rfl rfl)
theorem dX3_isOwl_6 : decode cX3_isOwl 6 = .ok (.aload_n 0, 1) := dk_42 (dk_at dksX3_isOwl_0 6 rfl rfl)
theorem dX3_isOwl_7 : decode cX3_isOwl 7 = .ok (.getfield 319, 3) := dk_180 1 63 (dk_at dksX3_isOwl_0 7 rfl rfl)
theorem dX3_isOwl_10 : decode cX3_isOwl 10 = .ok (.if_icmp .ge 7, 3) := dk_162 0 7 (dk_at dksX3_isOwl_0 10 rfl rfl)
theorem dX3_isOwl_13 : decode cX3_isOwl 13 = .ok (.iconst 1, 1) := dk_4 (dk_at dksX3_isOwl_0 13 rfl rfl)
theorem dX3_isOwl_14 : decode cX3_isOwl 14 = .ok (.goto 4, 3) := dk_167 0 4 (dk_at dksX3_isOwl_0 14 rfl rfl)
theorem dX3_isOwl_17 : decode cX3_isOwl 17 = .ok (.iconst 0, 1) := dk_3 (dk_at dksX3_isOwl_0 17 rfl rfl)
theorem dX3_isOwl_18 : decode cX3_isOwl 18 = .ok (.iconst 1, 1) := dk_4 (dk_at dksX3_isOwl_0 18 rfl rfl)
theorem dX3_isOwl_19 : decode cX3_isOwl 19 = .ok (.invokevirtual 306, 3) := dk_182 1 50 (dk_at dksX3_isOwl_0 19 rfl rfl)
theorem dX3_isOwl_22 : decode cX3_isOwl 22 = .ok (.ireturn, 1) := dk_172 (dk_at dksX3_isOwl_0 22 rfl rfl)
abbrev cX3_together : ByteArray := prog_14_method_66_code
def yX3_together : MethodName := ⟨RX3, "together", "(I)I"⟩
def dkwX3_together_4 : List UInt8 := [167, 255, 167, 28, 172]
abbrev dktX3_together_4 : List UInt8 := dkwX3_together_4 ++ []
def dkwX3_together_3 : List UInt8 := [132, 6, 1, 167, 255, 208, 28, 21, 5, 153, 0, 7, 4, 167, 0, 4, 3, 96, 61, 132, 3, 1]
abbrev dktX3_together_3 : List UInt8 := dkwX3_together_3 ++ dktX3_together_4
def dkwX3_together_2 : List UInt8 := [2, 159, 0, 19, 42, 21, 6, 29, 182, 1, 143, 21, 4, 160, 0, 7, 4, 167, 0, 4, 3, 54, 5]
abbrev dktX3_together_2 : List UInt8 := dkwX3_together_2 ++ dktX3_together_3
def dkwX3_together_1 : List UInt8 := [54, 6, 21, 6, 42, 180, 1, 63, 162, 0, 45, 21, 5, 154, 0, 27, 21, 6, 27, 159, 0, 25, 21, 4]
abbrev dktX3_together_1 : List UInt8 := dkwX3_together_1 ++ dktX3_together_2
def dkwX3_together_0 : List UInt8 := [3, 61, 3, 62, 29, 42, 180, 0, 7, 163, 0, 87, 42, 27, 29, 182, 1, 143, 54, 4, 3, 54, 5, 3]
abbrev dktX3_together_0 : List UInt8 := dkwX3_together_0 ++ dktX3_together_1
theorem dksX3_together_0 : cX3_together.data.toList.drop 0 = dktX3_together_0 := by decide +kernel
theorem dksX3_together_1 : cX3_together.data.toList.drop 24 = dktX3_together_1 := dk_seg dksX3_together_0 24 rfl rfl
theorem dksX3_together_2 : cX3_together.data.toList.drop 48 = dktX3_together_2 := dk_seg dksX3_together_1 24 rfl rfl
theorem dksX3_together_3 : cX3_together.data.toList.drop 71 = dktX3_together_3 := dk_seg dksX3_together_2 23 rfl rfl
theorem dksX3_together_4 : cX3_together.data.toList.drop 93 = dktX3_together_4 := dk_seg dksX3_together_3 22 rfl rfl
theorem dX3_together_0 : decode cX3_together 0 = .ok (.iconst 0, 1) := dk_3 (dk_at dksX3_together_0 0 rfl rfl)
theorem dX3_together_1 : decode cX3_together 1 = .ok (.istore_n 2, 1) := dk_61 (dk_at dksX3_together_0 1 rfl rfl)
theorem dX3_together_2 : decode cX3_together 2 = .ok (.iconst 0, 1) := dk_3 (dk_at dksX3_together_0 2 rfl rfl)
theorem dX3_together_3 : decode cX3_together 3 = .ok (.istore_n 3, 1) := dk_62 (dk_at dksX3_together_0 3 rfl rfl)
theorem dX3_together_4 : decode cX3_together 4 = .ok (.iload_n 3, 1) := dk_29 (dk_at dksX3_together_0 4 rfl rfl)
theorem dX3_together_5 : decode cX3_together 5 = .ok (.aload_n 0, 1) := dk_42 (dk_at dksX3_together_0 5 rfl rfl)
theorem dX3_together_6 : decode cX3_together 6 = .ok (.getfield 7, 3) := dk_180 0 7 (dk_at dksX3_together_0 6 rfl rfl)
theorem dX3_together_9 : decode cX3_together 9 = .ok (.if_icmp .gt 87, 3) := dk_163 0 87 (dk_at dksX3_together_0 9 rfl rfl)
theorem dX3_together_12 : decode cX3_together 12 = .ok (.aload_n 0, 1) := dk_42 (dk_at dksX3_together_0 12 rfl rfl)
theorem dX3_together_13 : decode cX3_together 13 = .ok (.iload_n 1, 1) := dk_27 (dk_at dksX3_together_0 13 rfl rfl)
theorem dX3_together_14 : decode cX3_together 14 = .ok (.iload_n 3, 1) := dk_29 (dk_at dksX3_together_0 14 rfl rfl)
theorem dX3_together_15 : decode cX3_together 15 = .ok (.invokevirtual 399, 3) := dk_182 1 143 (dk_at dksX3_together_0 15 rfl rfl)
theorem dX3_together_18 : decode cX3_together 18 = .ok (.istore 4, 2) := dk_54 4 (dk_at dksX3_together_0 18 rfl rfl)
theorem dX3_together_20 : decode cX3_together 20 = .ok (.iconst 0, 1) := dk_3 (dk_at dksX3_together_0 20 rfl rfl)
theorem dX3_together_21 : decode cX3_together 21 = .ok (.istore 5, 2) := dk_54 5 (dk_at dksX3_together_0 21 rfl rfl)
theorem dX3_together_23 : decode cX3_together 23 = .ok (.iconst 0, 1) := dk_3 (dk_at dksX3_together_0 23 rfl rfl)
theorem dX3_together_24 : decode cX3_together 24 = .ok (.istore 6, 2) := dk_54 6 (dk_at dksX3_together_1 0 rfl rfl)
theorem dX3_together_26 : decode cX3_together 26 = .ok (.iload 6, 2) := dk_21 6 (dk_at dksX3_together_1 2 rfl rfl)
theorem dX3_together_28 : decode cX3_together 28 = .ok (.aload_n 0, 1) := dk_42 (dk_at dksX3_together_1 4 rfl rfl)
theorem dX3_together_29 : decode cX3_together 29 = .ok (.getfield 319, 3) := dk_180 1 63 (dk_at dksX3_together_1 5 rfl rfl)
theorem dX3_together_32 : decode cX3_together 32 = .ok (.if_icmp .ge 45, 3) := dk_162 0 45 (dk_at dksX3_together_1 8 rfl rfl)
theorem dX3_together_35 : decode cX3_together 35 = .ok (.iload 5, 2) := dk_21 5 (dk_at dksX3_together_1 11 rfl rfl)
theorem dX3_together_37 : decode cX3_together 37 = .ok (.ifCond .ne 27, 3) := dk_154 0 27 (dk_at dksX3_together_1 13 rfl rfl)
theorem dX3_together_40 : decode cX3_together 40 = .ok (.iload 6, 2) := dk_21 6 (dk_at dksX3_together_1 16 rfl rfl)
theorem dX3_together_42 : decode cX3_together 42 = .ok (.iload_n 1, 1) := dk_27 (dk_at dksX3_together_1 18 rfl rfl)
theorem dX3_together_43 : decode cX3_together 43 = .ok (.if_icmp .eq 25, 3) := dk_159 0 25 (dk_at dksX3_together_1 19 rfl rfl)
theorem dX3_together_46 : decode cX3_together 46 = .ok (.iload 4, 2) := dk_21 4 (dk_at dksX3_together_1 22 rfl rfl)
theorem dX3_together_48 : decode cX3_together 48 = .ok (.iconst (-1), 1) := dk_2 (dk_at dksX3_together_2 0 rfl rfl)
theorem dX3_together_49 : decode cX3_together 49 = .ok (.if_icmp .eq 19, 3) := dk_159 0 19 (dk_at dksX3_together_2 1 rfl rfl)
theorem dX3_together_52 : decode cX3_together 52 = .ok (.aload_n 0, 1) := dk_42 (dk_at dksX3_together_2 4 rfl rfl)
theorem dX3_together_53 : decode cX3_together 53 = .ok (.iload 6, 2) := dk_21 6 (dk_at dksX3_together_2 5 rfl rfl)
theorem dX3_together_55 : decode cX3_together 55 = .ok (.iload_n 3, 1) := dk_29 (dk_at dksX3_together_2 7 rfl rfl)
theorem dX3_together_56 : decode cX3_together 56 = .ok (.invokevirtual 399, 3) := dk_182 1 143 (dk_at dksX3_together_2 8 rfl rfl)
theorem dX3_together_59 : decode cX3_together 59 = .ok (.iload 4, 2) := dk_21 4 (dk_at dksX3_together_2 11 rfl rfl)
theorem dX3_together_61 : decode cX3_together 61 = .ok (.if_icmp .ne 7, 3) := dk_160 0 7 (dk_at dksX3_together_2 13 rfl rfl)
theorem dX3_together_64 : decode cX3_together 64 = .ok (.iconst 1, 1) := dk_4 (dk_at dksX3_together_2 16 rfl rfl)
theorem dX3_together_65 : decode cX3_together 65 = .ok (.goto 4, 3) := dk_167 0 4 (dk_at dksX3_together_2 17 rfl rfl)
theorem dX3_together_68 : decode cX3_together 68 = .ok (.iconst 0, 1) := dk_3 (dk_at dksX3_together_2 20 rfl rfl)
theorem dX3_together_69 : decode cX3_together 69 = .ok (.istore 5, 2) := dk_54 5 (dk_at dksX3_together_2 21 rfl rfl)
theorem dX3_together_71 : decode cX3_together 71 = .ok (.iinc 6 1, 3) := dk_132 6 1 (dk_at dksX3_together_3 0 rfl rfl)
theorem dX3_together_74 : decode cX3_together 74 = .ok (.goto (-48), 3) := dk_167 255 208 (dk_at dksX3_together_3 3 rfl rfl)
theorem dX3_together_77 : decode cX3_together 77 = .ok (.iload_n 2, 1) := dk_28 (dk_at dksX3_together_3 6 rfl rfl)
theorem dX3_together_78 : decode cX3_together 78 = .ok (.iload 5, 2) := dk_21 5 (dk_at dksX3_together_3 7 rfl rfl)
theorem dX3_together_80 : decode cX3_together 80 = .ok (.ifCond .eq 7, 3) := dk_153 0 7 (dk_at dksX3_together_3 9 rfl rfl)
theorem dX3_together_83 : decode cX3_together 83 = .ok (.iconst 1, 1) := dk_4 (dk_at dksX3_together_3 12 rfl rfl)
theorem dX3_together_84 : decode cX3_together 84 = .ok (.goto 4, 3) := dk_167 0 4 (dk_at dksX3_together_3 13 rfl rfl)
theorem dX3_together_87 : decode cX3_together 87 = .ok (.iconst 0, 1) := dk_3 (dk_at dksX3_together_3 16 rfl rfl)
theorem dX3_together_88 : decode cX3_together 88 = .ok (.iadd, 1) := dk_96 (dk_at dksX3_together_3 17 rfl rfl)
theorem dX3_together_89 : decode cX3_together 89 = .ok (.istore_n 2, 1) := dk_61 (dk_at dksX3_together_3 18 rfl rfl)
theorem dX3_together_90 : decode cX3_together 90 = .ok (.iinc 3 1, 3) := dk_132 3 1 (dk_at dksX3_together_3 19 rfl rfl)
theorem dX3_together_93 : decode cX3_together 93 = .ok (.goto (-89), 3) := dk_167 255 167 (dk_at dksX3_together_4 0 rfl rfl)
theorem dX3_together_96 : decode cX3_together 96 = .ok (.iload_n 2, 1) := dk_28 (dk_at dksX3_together_4 3 rfl rfl)
theorem dX3_together_97 : decode cX3_together 97 = .ok (.ireturn, 1) := dk_172 (dk_at dksX3_together_4 4 rfl rfl)
abbrev cX3_whereIs : ByteArray := prog_14_method_51_code
def yX3_whereIs : MethodName := ⟨RX3, "whereIs", "(II)I"⟩
def dkwX3_whereIs_3 : List UInt8 := [46, 163, 0, 15, 42, 180, 0, 23, 16, 8, 27, 104, 29, 96, 46, 172, 132, 3, 1, 167, 255, 177, 2, 172]
abbrev dktX3_whereIs_3 : List UInt8 := dkwX3_whereIs_3 ++ []
def dkwX3_whereIs_2 : List UInt8 := [27, 104, 29, 96, 46, 161, 0, 35, 21, 4, 154, 0, 18, 28, 42, 180, 0, 99, 16, 8, 27, 104, 29, 96]
abbrev dktX3_whereIs_2 : List UInt8 := dkwX3_whereIs_2 ++ dktX3_whereIs_3
def dkwX3_whereIs_1 : List UInt8 := [180, 0, 20, 27, 46, 4, 100, 160, 0, 7, 4, 167, 0, 4, 3, 54, 4, 28, 42, 180, 0, 96, 16, 8]
abbrev dktX3_whereIs_1 : List UInt8 := dkwX3_whereIs_1 ++ dktX3_whereIs_2
def dkwX3_whereIs_0 : List UInt8 := [42, 27, 182, 1, 100, 153, 0, 5, 2, 172, 3, 62, 29, 42, 180, 0, 20, 27, 46, 162, 0, 75, 29, 42]
abbrev dktX3_whereIs_0 : List UInt8 := dkwX3_whereIs_0 ++ dktX3_whereIs_1
theorem dksX3_whereIs_0 : cX3_whereIs.data.toList.drop 0 = dktX3_whereIs_0 := by decide +kernel
theorem dksX3_whereIs_1 : cX3_whereIs.data.toList.drop 24 = dktX3_whereIs_1 := dk_seg dksX3_whereIs_0 24 rfl rfl
theorem dksX3_whereIs_2 : cX3_whereIs.data.toList.drop 48 = dktX3_whereIs_2 := dk_seg dksX3_whereIs_1 24 rfl rfl
theorem dksX3_whereIs_3 : cX3_whereIs.data.toList.drop 72 = dktX3_whereIs_3 := dk_seg dksX3_whereIs_2 24 rfl rfl
theorem dX3_whereIs_0 : decode cX3_whereIs 0 = .ok (.aload_n 0, 1) := dk_42 (dk_at dksX3_whereIs_0 0 rfl rfl)
theorem dX3_whereIs_1 : decode cX3_whereIs 1 = .ok (.iload_n 1, 1) := dk_27 (dk_at dksX3_whereIs_0 1 rfl rfl)
theorem dX3_whereIs_2 : decode cX3_whereIs 2 = .ok (.invokevirtual 356, 3) := dk_182 1 100 (dk_at dksX3_whereIs_0 2 rfl rfl)
theorem dX3_whereIs_5 : decode cX3_whereIs 5 = .ok (.ifCond .eq 5, 3) := dk_153 0 5 (dk_at dksX3_whereIs_0 5 rfl rfl)
theorem dX3_whereIs_8 : decode cX3_whereIs 8 = .ok (.iconst (-1), 1) := dk_2 (dk_at dksX3_whereIs_0 8 rfl rfl)
theorem dX3_whereIs_9 : decode cX3_whereIs 9 = .ok (.ireturn, 1) := dk_172 (dk_at dksX3_whereIs_0 9 rfl rfl)
theorem dX3_whereIs_10 : decode cX3_whereIs 10 = .ok (.iconst 0, 1) := dk_3 (dk_at dksX3_whereIs_0 10 rfl rfl)
theorem dX3_whereIs_11 : decode cX3_whereIs 11 = .ok (.istore_n 3, 1) := dk_62 (dk_at dksX3_whereIs_0 11 rfl rfl)
theorem dX3_whereIs_12 : decode cX3_whereIs 12 = .ok (.iload_n 3, 1) := dk_29 (dk_at dksX3_whereIs_0 12 rfl rfl)
theorem dX3_whereIs_13 : decode cX3_whereIs 13 = .ok (.aload_n 0, 1) := dk_42 (dk_at dksX3_whereIs_0 13 rfl rfl)
theorem dX3_whereIs_14 : decode cX3_whereIs 14 = .ok (.getfield 20, 3) := dk_180 0 20 (dk_at dksX3_whereIs_0 14 rfl rfl)
theorem dX3_whereIs_17 : decode cX3_whereIs 17 = .ok (.iload_n 1, 1) := dk_27 (dk_at dksX3_whereIs_0 17 rfl rfl)
theorem dX3_whereIs_18 : decode cX3_whereIs 18 = .ok (.iaload, 1) := dk_46 (dk_at dksX3_whereIs_0 18 rfl rfl)
theorem dX3_whereIs_19 : decode cX3_whereIs 19 = .ok (.if_icmp .ge 75, 3) := dk_162 0 75 (dk_at dksX3_whereIs_0 19 rfl rfl)
theorem dX3_whereIs_22 : decode cX3_whereIs 22 = .ok (.iload_n 3, 1) := dk_29 (dk_at dksX3_whereIs_0 22 rfl rfl)
theorem dX3_whereIs_23 : decode cX3_whereIs 23 = .ok (.aload_n 0, 1) := dk_42 (dk_at dksX3_whereIs_0 23 rfl rfl)
theorem dX3_whereIs_24 : decode cX3_whereIs 24 = .ok (.getfield 20, 3) := dk_180 0 20 (dk_at dksX3_whereIs_1 0 rfl rfl)
theorem dX3_whereIs_27 : decode cX3_whereIs 27 = .ok (.iload_n 1, 1) := dk_27 (dk_at dksX3_whereIs_1 3 rfl rfl)
theorem dX3_whereIs_28 : decode cX3_whereIs 28 = .ok (.iaload, 1) := dk_46 (dk_at dksX3_whereIs_1 4 rfl rfl)
theorem dX3_whereIs_29 : decode cX3_whereIs 29 = .ok (.iconst 1, 1) := dk_4 (dk_at dksX3_whereIs_1 5 rfl rfl)
theorem dX3_whereIs_30 : decode cX3_whereIs 30 = .ok (.isub, 1) := dk_100 (dk_at dksX3_whereIs_1 6 rfl rfl)
theorem dX3_whereIs_31 : decode cX3_whereIs 31 = .ok (.if_icmp .ne 7, 3) := dk_160 0 7 (dk_at dksX3_whereIs_1 7 rfl rfl)
theorem dX3_whereIs_34 : decode cX3_whereIs 34 = .ok (.iconst 1, 1) := dk_4 (dk_at dksX3_whereIs_1 10 rfl rfl)
theorem dX3_whereIs_35 : decode cX3_whereIs 35 = .ok (.goto 4, 3) := dk_167 0 4 (dk_at dksX3_whereIs_1 11 rfl rfl)
theorem dX3_whereIs_38 : decode cX3_whereIs 38 = .ok (.iconst 0, 1) := dk_3 (dk_at dksX3_whereIs_1 14 rfl rfl)
theorem dX3_whereIs_39 : decode cX3_whereIs 39 = .ok (.istore 4, 2) := dk_54 4 (dk_at dksX3_whereIs_1 15 rfl rfl)
theorem dX3_whereIs_41 : decode cX3_whereIs 41 = .ok (.iload_n 2, 1) := dk_28 (dk_at dksX3_whereIs_1 17 rfl rfl)
theorem dX3_whereIs_42 : decode cX3_whereIs 42 = .ok (.aload_n 0, 1) := dk_42 (dk_at dksX3_whereIs_1 18 rfl rfl)
theorem dX3_whereIs_43 : decode cX3_whereIs 43 = .ok (.getfield 96, 3) := dk_180 0 96 (dk_at dksX3_whereIs_1 19 rfl rfl)
theorem dX3_whereIs_46 : decode cX3_whereIs 46 = .ok (.bipush 8, 2) := dk_16 8 (dk_at dksX3_whereIs_1 22 rfl rfl)
theorem dX3_whereIs_48 : decode cX3_whereIs 48 = .ok (.iload_n 1, 1) := dk_27 (dk_at dksX3_whereIs_2 0 rfl rfl)
theorem dX3_whereIs_49 : decode cX3_whereIs 49 = .ok (.imul, 1) := dk_104 (dk_at dksX3_whereIs_2 1 rfl rfl)
theorem dX3_whereIs_50 : decode cX3_whereIs 50 = .ok (.iload_n 3, 1) := dk_29 (dk_at dksX3_whereIs_2 2 rfl rfl)
theorem dX3_whereIs_51 : decode cX3_whereIs 51 = .ok (.iadd, 1) := dk_96 (dk_at dksX3_whereIs_2 3 rfl rfl)
theorem dX3_whereIs_52 : decode cX3_whereIs 52 = .ok (.iaload, 1) := dk_46 (dk_at dksX3_whereIs_2 4 rfl rfl)
theorem dX3_whereIs_53 : decode cX3_whereIs 53 = .ok (.if_icmp .lt 35, 3) := dk_161 0 35 (dk_at dksX3_whereIs_2 5 rfl rfl)
theorem dX3_whereIs_56 : decode cX3_whereIs 56 = .ok (.iload 4, 2) := dk_21 4 (dk_at dksX3_whereIs_2 8 rfl rfl)
theorem dX3_whereIs_58 : decode cX3_whereIs 58 = .ok (.ifCond .ne 18, 3) := dk_154 0 18 (dk_at dksX3_whereIs_2 10 rfl rfl)
theorem dX3_whereIs_61 : decode cX3_whereIs 61 = .ok (.iload_n 2, 1) := dk_28 (dk_at dksX3_whereIs_2 13 rfl rfl)
theorem dX3_whereIs_62 : decode cX3_whereIs 62 = .ok (.aload_n 0, 1) := dk_42 (dk_at dksX3_whereIs_2 14 rfl rfl)
theorem dX3_whereIs_63 : decode cX3_whereIs 63 = .ok (.getfield 99, 3) := dk_180 0 99 (dk_at dksX3_whereIs_2 15 rfl rfl)
theorem dX3_whereIs_66 : decode cX3_whereIs 66 = .ok (.bipush 8, 2) := dk_16 8 (dk_at dksX3_whereIs_2 18 rfl rfl)
theorem dX3_whereIs_68 : decode cX3_whereIs 68 = .ok (.iload_n 1, 1) := dk_27 (dk_at dksX3_whereIs_2 20 rfl rfl)
theorem dX3_whereIs_69 : decode cX3_whereIs 69 = .ok (.imul, 1) := dk_104 (dk_at dksX3_whereIs_2 21 rfl rfl)
theorem dX3_whereIs_70 : decode cX3_whereIs 70 = .ok (.iload_n 3, 1) := dk_29 (dk_at dksX3_whereIs_2 22 rfl rfl)
theorem dX3_whereIs_71 : decode cX3_whereIs 71 = .ok (.iadd, 1) := dk_96 (dk_at dksX3_whereIs_2 23 rfl rfl)
theorem dX3_whereIs_72 : decode cX3_whereIs 72 = .ok (.iaload, 1) := dk_46 (dk_at dksX3_whereIs_3 0 rfl rfl)
theorem dX3_whereIs_73 : decode cX3_whereIs 73 = .ok (.if_icmp .gt 15, 3) := dk_163 0 15 (dk_at dksX3_whereIs_3 1 rfl rfl)
theorem dX3_whereIs_76 : decode cX3_whereIs 76 = .ok (.aload_n 0, 1) := dk_42 (dk_at dksX3_whereIs_3 4 rfl rfl)
theorem dX3_whereIs_77 : decode cX3_whereIs 77 = .ok (.getfield 23, 3) := dk_180 0 23 (dk_at dksX3_whereIs_3 5 rfl rfl)
theorem dX3_whereIs_80 : decode cX3_whereIs 80 = .ok (.bipush 8, 2) := dk_16 8 (dk_at dksX3_whereIs_3 8 rfl rfl)
theorem dX3_whereIs_82 : decode cX3_whereIs 82 = .ok (.iload_n 1, 1) := dk_27 (dk_at dksX3_whereIs_3 10 rfl rfl)
theorem dX3_whereIs_83 : decode cX3_whereIs 83 = .ok (.imul, 1) := dk_104 (dk_at dksX3_whereIs_3 11 rfl rfl)
theorem dX3_whereIs_84 : decode cX3_whereIs 84 = .ok (.iload_n 3, 1) := dk_29 (dk_at dksX3_whereIs_3 12 rfl rfl)
theorem dX3_whereIs_85 : decode cX3_whereIs 85 = .ok (.iadd, 1) := dk_96 (dk_at dksX3_whereIs_3 13 rfl rfl)
theorem dX3_whereIs_86 : decode cX3_whereIs 86 = .ok (.iaload, 1) := dk_46 (dk_at dksX3_whereIs_3 14 rfl rfl)
theorem dX3_whereIs_87 : decode cX3_whereIs 87 = .ok (.ireturn, 1) := dk_172 (dk_at dksX3_whereIs_3 15 rfl rfl)
theorem dX3_whereIs_88 : decode cX3_whereIs 88 = .ok (.iinc 3 1, 3) := dk_132 3 1 (dk_at dksX3_whereIs_3 16 rfl rfl)
theorem dX3_whereIs_91 : decode cX3_whereIs 91 = .ok (.goto (-79), 3) := dk_167 255 177 (dk_at dksX3_whereIs_3 19 rfl rfl)
theorem dX3_whereIs_94 : decode cX3_whereIs 94 = .ok (.iconst (-1), 1) := dk_2 (dk_at dksX3_whereIs_3 22 rfl rfl)
theorem dX3_whereIs_95 : decode cX3_whereIs 95 = .ok (.ireturn, 1) := dk_172 (dk_at dksX3_whereIs_3 23 rfl rfl)
abbrev cX3_stop : ByteArray := prog_14_method_68_code
def yX3_stop : MethodName := ⟨RX3, "stop", "(III)I"⟩
def dkwX3_stop_4 : List UInt8 := [16, 8, 27, 104, 28, 96, 46, 167, 0, 14, 42, 180, 0, 99, 16, 8, 27, 104, 28, 96, 46, 172]
abbrev dktX3_stop_4 : List UInt8 := dkwX3_stop_4 ++ []
def dkwX3_stop_3 : List UInt8 := [167, 0, 45, 42, 27, 182, 1, 100, 153, 0, 7, 2, 167, 0, 33, 29, 4, 160, 0, 17, 42, 180, 0, 96]
abbrev dktX3_stop_3 : List UInt8 := dkwX3_stop_3 ++ dktX3_stop_4
def dkwX3_stop_2 : List UInt8 := [154, 0, 5, 3, 172, 42, 182, 1, 123, 29, 154, 0, 17, 42, 180, 0, 23, 16, 8, 27, 104, 28, 96, 46]
abbrev dktX3_stop_2 : List UInt8 := dkwX3_stop_2 ++ dktX3_stop_3
def dkwX3_stop_1 : List UInt8 := [46, 162, 0, 7, 4, 167, 0, 4, 3, 4, 182, 1, 50, 153, 0, 12, 42, 29, 5, 182, 1, 139]
abbrev dktX3_stop_1 : List UInt8 := dkwX3_stop_1 ++ dktX3_stop_2
def dkwX3_stop_0 : List UInt8 := [42, 3, 181, 0, 147, 42, 27, 182, 1, 146, 153, 0, 39, 42, 28, 155, 0, 17, 28, 42, 180, 0, 20, 27]
abbrev dktX3_stop_0 : List UInt8 := dkwX3_stop_0 ++ dktX3_stop_1
theorem dksX3_stop_0 : cX3_stop.data.toList.drop 0 = dktX3_stop_0 := by decide +kernel
theorem dksX3_stop_1 : cX3_stop.data.toList.drop 24 = dktX3_stop_1 := dk_seg dksX3_stop_0 24 rfl rfl
theorem dksX3_stop_2 : cX3_stop.data.toList.drop 46 = dktX3_stop_2 := dk_seg dksX3_stop_1 22 rfl rfl
theorem dksX3_stop_3 : cX3_stop.data.toList.drop 70 = dktX3_stop_3 := dk_seg dksX3_stop_2 24 rfl rfl
theorem dksX3_stop_4 : cX3_stop.data.toList.drop 94 = dktX3_stop_4 := dk_seg dksX3_stop_3 24 rfl rfl
theorem dX3_stop_0 : decode cX3_stop 0 = .ok (.aload_n 0, 1) := dk_42 (dk_at dksX3_stop_0 0 rfl rfl)
theorem dX3_stop_1 : decode cX3_stop 1 = .ok (.iconst 0, 1) := dk_3 (dk_at dksX3_stop_0 1 rfl rfl)
theorem dX3_stop_2 : decode cX3_stop 2 = .ok (.putfield 147, 3) := dk_181 0 147 (dk_at dksX3_stop_0 2 rfl rfl)
theorem dX3_stop_5 : decode cX3_stop 5 = .ok (.aload_n 0, 1) := dk_42 (dk_at dksX3_stop_0 5 rfl rfl)
theorem dX3_stop_6 : decode cX3_stop 6 = .ok (.iload_n 1, 1) := dk_27 (dk_at dksX3_stop_0 6 rfl rfl)
theorem dX3_stop_7 : decode cX3_stop 7 = .ok (.invokevirtual 402, 3) := dk_182 1 146 (dk_at dksX3_stop_0 7 rfl rfl)
theorem dX3_stop_10 : decode cX3_stop 10 = .ok (.ifCond .eq 39, 3) := dk_153 0 39 (dk_at dksX3_stop_0 10 rfl rfl)
theorem dX3_stop_13 : decode cX3_stop 13 = .ok (.aload_n 0, 1) := dk_42 (dk_at dksX3_stop_0 13 rfl rfl)
theorem dX3_stop_14 : decode cX3_stop 14 = .ok (.iload_n 2, 1) := dk_28 (dk_at dksX3_stop_0 14 rfl rfl)
theorem dX3_stop_15 : decode cX3_stop 15 = .ok (.ifCond .lt 17, 3) := dk_155 0 17 (dk_at dksX3_stop_0 15 rfl rfl)
theorem dX3_stop_18 : decode cX3_stop 18 = .ok (.iload_n 2, 1) := dk_28 (dk_at dksX3_stop_0 18 rfl rfl)
theorem dX3_stop_19 : decode cX3_stop 19 = .ok (.aload_n 0, 1) := dk_42 (dk_at dksX3_stop_0 19 rfl rfl)
theorem dX3_stop_20 : decode cX3_stop 20 = .ok (.getfield 20, 3) := dk_180 0 20 (dk_at dksX3_stop_0 20 rfl rfl)
theorem dX3_stop_23 : decode cX3_stop 23 = .ok (.iload_n 1, 1) := dk_27 (dk_at dksX3_stop_0 23 rfl rfl)
theorem dX3_stop_24 : decode cX3_stop 24 = .ok (.iaload, 1) := dk_46 (dk_at dksX3_stop_1 0 rfl rfl)
theorem dX3_stop_25 : decode cX3_stop 25 = .ok (.if_icmp .ge 7, 3) := dk_162 0 7 (dk_at dksX3_stop_1 1 rfl rfl)
theorem dX3_stop_28 : decode cX3_stop 28 = .ok (.iconst 1, 1) := dk_4 (dk_at dksX3_stop_1 4 rfl rfl)
theorem dX3_stop_29 : decode cX3_stop 29 = .ok (.goto 4, 3) := dk_167 0 4 (dk_at dksX3_stop_1 5 rfl rfl)
theorem dX3_stop_32 : decode cX3_stop 32 = .ok (.iconst 0, 1) := dk_3 (dk_at dksX3_stop_1 8 rfl rfl)
theorem dX3_stop_33 : decode cX3_stop 33 = .ok (.iconst 1, 1) := dk_4 (dk_at dksX3_stop_1 9 rfl rfl)
theorem dX3_stop_34 : decode cX3_stop 34 = .ok (.invokevirtual 306, 3) := dk_182 1 50 (dk_at dksX3_stop_1 10 rfl rfl)
theorem dX3_stop_37 : decode cX3_stop 37 = .ok (.ifCond .eq 12, 3) := dk_153 0 12 (dk_at dksX3_stop_1 13 rfl rfl)
theorem dX3_stop_40 : decode cX3_stop 40 = .ok (.aload_n 0, 1) := dk_42 (dk_at dksX3_stop_1 16 rfl rfl)
theorem dX3_stop_41 : decode cX3_stop 41 = .ok (.iload_n 3, 1) := dk_29 (dk_at dksX3_stop_1 17 rfl rfl)
theorem dX3_stop_42 : decode cX3_stop 42 = .ok (.iconst 2, 1) := dk_5 (dk_at dksX3_stop_1 18 rfl rfl)
theorem dX3_stop_43 : decode cX3_stop 43 = .ok (.invokevirtual 395, 3) := dk_182 1 139 (dk_at dksX3_stop_1 19 rfl rfl)
theorem dX3_stop_46 : decode cX3_stop 46 = .ok (.ifCond .ne 5, 3) := dk_154 0 5 (dk_at dksX3_stop_2 0 rfl rfl)
theorem dX3_stop_49 : decode cX3_stop 49 = .ok (.iconst 0, 1) := dk_3 (dk_at dksX3_stop_2 3 rfl rfl)
theorem dX3_stop_50 : decode cX3_stop 50 = .ok (.ireturn, 1) := dk_172 (dk_at dksX3_stop_2 4 rfl rfl)
theorem dX3_stop_51 : decode cX3_stop 51 = .ok (.aload_n 0, 1) := dk_42 (dk_at dksX3_stop_2 5 rfl rfl)
theorem dX3_stop_52 : decode cX3_stop 52 = .ok (.invokevirtual 379, 3) := dk_182 1 123 (dk_at dksX3_stop_2 6 rfl rfl)
theorem dX3_stop_55 : decode cX3_stop 55 = .ok (.iload_n 3, 1) := dk_29 (dk_at dksX3_stop_2 9 rfl rfl)
theorem dX3_stop_56 : decode cX3_stop 56 = .ok (.ifCond .ne 17, 3) := dk_154 0 17 (dk_at dksX3_stop_2 10 rfl rfl)
theorem dX3_stop_59 : decode cX3_stop 59 = .ok (.aload_n 0, 1) := dk_42 (dk_at dksX3_stop_2 13 rfl rfl)
theorem dX3_stop_60 : decode cX3_stop 60 = .ok (.getfield 23, 3) := dk_180 0 23 (dk_at dksX3_stop_2 14 rfl rfl)
theorem dX3_stop_63 : decode cX3_stop 63 = .ok (.bipush 8, 2) := dk_16 8 (dk_at dksX3_stop_2 17 rfl rfl)
theorem dX3_stop_65 : decode cX3_stop 65 = .ok (.iload_n 1, 1) := dk_27 (dk_at dksX3_stop_2 19 rfl rfl)
theorem dX3_stop_66 : decode cX3_stop 66 = .ok (.imul, 1) := dk_104 (dk_at dksX3_stop_2 20 rfl rfl)
theorem dX3_stop_67 : decode cX3_stop 67 = .ok (.iload_n 2, 1) := dk_28 (dk_at dksX3_stop_2 21 rfl rfl)
theorem dX3_stop_68 : decode cX3_stop 68 = .ok (.iadd, 1) := dk_96 (dk_at dksX3_stop_2 22 rfl rfl)
theorem dX3_stop_69 : decode cX3_stop 69 = .ok (.iaload, 1) := dk_46 (dk_at dksX3_stop_2 23 rfl rfl)
theorem dX3_stop_70 : decode cX3_stop 70 = .ok (.goto 45, 3) := dk_167 0 45 (dk_at dksX3_stop_3 0 rfl rfl)
theorem dX3_stop_73 : decode cX3_stop 73 = .ok (.aload_n 0, 1) := dk_42 (dk_at dksX3_stop_3 3 rfl rfl)
theorem dX3_stop_74 : decode cX3_stop 74 = .ok (.iload_n 1, 1) := dk_27 (dk_at dksX3_stop_3 4 rfl rfl)
theorem dX3_stop_75 : decode cX3_stop 75 = .ok (.invokevirtual 356, 3) := dk_182 1 100 (dk_at dksX3_stop_3 5 rfl rfl)
theorem dX3_stop_78 : decode cX3_stop 78 = .ok (.ifCond .eq 7, 3) := dk_153 0 7 (dk_at dksX3_stop_3 8 rfl rfl)
theorem dX3_stop_81 : decode cX3_stop 81 = .ok (.iconst (-1), 1) := dk_2 (dk_at dksX3_stop_3 11 rfl rfl)
theorem dX3_stop_82 : decode cX3_stop 82 = .ok (.goto 33, 3) := dk_167 0 33 (dk_at dksX3_stop_3 12 rfl rfl)
theorem dX3_stop_85 : decode cX3_stop 85 = .ok (.iload_n 3, 1) := dk_29 (dk_at dksX3_stop_3 15 rfl rfl)
theorem dX3_stop_86 : decode cX3_stop 86 = .ok (.iconst 1, 1) := dk_4 (dk_at dksX3_stop_3 16 rfl rfl)
theorem dX3_stop_87 : decode cX3_stop 87 = .ok (.if_icmp .ne 17, 3) := dk_160 0 17 (dk_at dksX3_stop_3 17 rfl rfl)
theorem dX3_stop_90 : decode cX3_stop 90 = .ok (.aload_n 0, 1) := dk_42 (dk_at dksX3_stop_3 20 rfl rfl)
theorem dX3_stop_91 : decode cX3_stop 91 = .ok (.getfield 96, 3) := dk_180 0 96 (dk_at dksX3_stop_3 21 rfl rfl)
theorem dX3_stop_94 : decode cX3_stop 94 = .ok (.bipush 8, 2) := dk_16 8 (dk_at dksX3_stop_4 0 rfl rfl)
theorem dX3_stop_96 : decode cX3_stop 96 = .ok (.iload_n 1, 1) := dk_27 (dk_at dksX3_stop_4 2 rfl rfl)
theorem dX3_stop_97 : decode cX3_stop 97 = .ok (.imul, 1) := dk_104 (dk_at dksX3_stop_4 3 rfl rfl)
theorem dX3_stop_98 : decode cX3_stop 98 = .ok (.iload_n 2, 1) := dk_28 (dk_at dksX3_stop_4 4 rfl rfl)
theorem dX3_stop_99 : decode cX3_stop 99 = .ok (.iadd, 1) := dk_96 (dk_at dksX3_stop_4 5 rfl rfl)
theorem dX3_stop_100 : decode cX3_stop 100 = .ok (.iaload, 1) := dk_46 (dk_at dksX3_stop_4 6 rfl rfl)
theorem dX3_stop_101 : decode cX3_stop 101 = .ok (.goto 14, 3) := dk_167 0 14 (dk_at dksX3_stop_4 7 rfl rfl)
theorem dX3_stop_104 : decode cX3_stop 104 = .ok (.aload_n 0, 1) := dk_42 (dk_at dksX3_stop_4 10 rfl rfl)
theorem dX3_stop_105 : decode cX3_stop 105 = .ok (.getfield 99, 3) := dk_180 0 99 (dk_at dksX3_stop_4 11 rfl rfl)
theorem dX3_stop_108 : decode cX3_stop 108 = .ok (.bipush 8, 2) := dk_16 8 (dk_at dksX3_stop_4 14 rfl rfl)
theorem dX3_stop_110 : decode cX3_stop 110 = .ok (.iload_n 1, 1) := dk_27 (dk_at dksX3_stop_4 16 rfl rfl)
theorem dX3_stop_111 : decode cX3_stop 111 = .ok (.imul, 1) := dk_104 (dk_at dksX3_stop_4 17 rfl rfl)
theorem dX3_stop_112 : decode cX3_stop 112 = .ok (.iload_n 2, 1) := dk_28 (dk_at dksX3_stop_4 18 rfl rfl)
theorem dX3_stop_113 : decode cX3_stop 113 = .ok (.iadd, 1) := dk_96 (dk_at dksX3_stop_4 19 rfl rfl)
theorem dX3_stop_114 : decode cX3_stop 114 = .ok (.iaload, 1) := dk_46 (dk_at dksX3_stop_4 20 rfl rfl)
theorem dX3_stop_115 : decode cX3_stop 115 = .ok (.ireturn, 1) := dk_172 (dk_at dksX3_stop_4 21 rfl rfl)
abbrev cX3_rider : ByteArray := prog_14_method_69_code
def yX3_rider : MethodName := ⟨RX3, "rider", "(II)I"⟩
def dkwX3_rider_1 : List UInt8 := [180, 0, 26, 7, 27, 104, 28, 96, 46, 167, 0, 4, 3, 172]
abbrev dktX3_rider_1 : List UInt8 := dkwX3_rider_1 ++ []
def dkwX3_rider_0 : List UInt8 := [42, 3, 181, 0, 147, 42, 27, 182, 1, 152, 153, 0, 25, 42, 28, 6, 182, 1, 139, 153, 0, 16, 42]
abbrev dktX3_rider_0 : List UInt8 := dkwX3_rider_0 ++ dktX3_rider_1
theorem dksX3_rider_0 : cX3_rider.data.toList.drop 0 = dktX3_rider_0 := by decide +kernel
theorem dksX3_rider_1 : cX3_rider.data.toList.drop 23 = dktX3_rider_1 := dk_seg dksX3_rider_0 23 rfl rfl
theorem dX3_rider_0 : decode cX3_rider 0 = .ok (.aload_n 0, 1) := dk_42 (dk_at dksX3_rider_0 0 rfl rfl)
theorem dX3_rider_1 : decode cX3_rider 1 = .ok (.iconst 0, 1) := dk_3 (dk_at dksX3_rider_0 1 rfl rfl)
theorem dX3_rider_2 : decode cX3_rider 2 = .ok (.putfield 147, 3) := dk_181 0 147 (dk_at dksX3_rider_0 2 rfl rfl)
theorem dX3_rider_5 : decode cX3_rider 5 = .ok (.aload_n 0, 1) := dk_42 (dk_at dksX3_rider_0 5 rfl rfl)
theorem dX3_rider_6 : decode cX3_rider 6 = .ok (.iload_n 1, 1) := dk_27 (dk_at dksX3_rider_0 6 rfl rfl)
theorem dX3_rider_7 : decode cX3_rider 7 = .ok (.invokevirtual 408, 3) := dk_182 1 152 (dk_at dksX3_rider_0 7 rfl rfl)
theorem dX3_rider_10 : decode cX3_rider 10 = .ok (.ifCond .eq 25, 3) := dk_153 0 25 (dk_at dksX3_rider_0 10 rfl rfl)
theorem dX3_rider_13 : decode cX3_rider 13 = .ok (.aload_n 0, 1) := dk_42 (dk_at dksX3_rider_0 13 rfl rfl)
theorem dX3_rider_14 : decode cX3_rider 14 = .ok (.iload_n 2, 1) := dk_28 (dk_at dksX3_rider_0 14 rfl rfl)
theorem dX3_rider_15 : decode cX3_rider 15 = .ok (.iconst 3, 1) := dk_6 (dk_at dksX3_rider_0 15 rfl rfl)
theorem dX3_rider_16 : decode cX3_rider 16 = .ok (.invokevirtual 395, 3) := dk_182 1 139 (dk_at dksX3_rider_0 16 rfl rfl)
theorem dX3_rider_19 : decode cX3_rider 19 = .ok (.ifCond .eq 16, 3) := dk_153 0 16 (dk_at dksX3_rider_0 19 rfl rfl)
theorem dX3_rider_22 : decode cX3_rider 22 = .ok (.aload_n 0, 1) := dk_42 (dk_at dksX3_rider_0 22 rfl rfl)
theorem dX3_rider_23 : decode cX3_rider 23 = .ok (.getfield 26, 3) := dk_180 0 26 (dk_at dksX3_rider_1 0 rfl rfl)
theorem dX3_rider_26 : decode cX3_rider 26 = .ok (.iconst 4, 1) := dk_7 (dk_at dksX3_rider_1 3 rfl rfl)
theorem dX3_rider_27 : decode cX3_rider 27 = .ok (.iload_n 1, 1) := dk_27 (dk_at dksX3_rider_1 4 rfl rfl)
theorem dX3_rider_28 : decode cX3_rider 28 = .ok (.imul, 1) := dk_104 (dk_at dksX3_rider_1 5 rfl rfl)
theorem dX3_rider_29 : decode cX3_rider 29 = .ok (.iload_n 2, 1) := dk_28 (dk_at dksX3_rider_1 6 rfl rfl)
theorem dX3_rider_30 : decode cX3_rider 30 = .ok (.iadd, 1) := dk_96 (dk_at dksX3_rider_1 7 rfl rfl)
theorem dX3_rider_31 : decode cX3_rider 31 = .ok (.iaload, 1) := dk_46 (dk_at dksX3_rider_1 8 rfl rfl)
theorem dX3_rider_32 : decode cX3_rider 32 = .ok (.goto 4, 3) := dk_167 0 4 (dk_at dksX3_rider_1 9 rfl rfl)
theorem dX3_rider_35 : decode cX3_rider 35 = .ok (.iconst 0, 1) := dk_3 (dk_at dksX3_rider_1 12 rfl rfl)
theorem dX3_rider_36 : decode cX3_rider 36 = .ok (.ireturn, 1) := dk_172 (dk_at dksX3_rider_1 13 rfl rfl)
abbrev cX3_isRider : ByteArray := prog_14_method_62_code
def yX3_isRider : MethodName := ⟨RX3, "isRider", "(I)Z"⟩
def dkwX3_isRider_0 : List UInt8 := [42, 27, 155, 0, 15, 27, 42, 180, 1, 66, 162, 0, 7, 4, 167, 0, 4, 3, 4, 182, 1, 50, 172]
abbrev dktX3_isRider_0 : List UInt8 := dkwX3_isRider_0 ++ []
theorem dksX3_isRider_0 : cX3_isRider.data.toList.drop 0 = dktX3_isRider_0 := by decide +kernel
theorem dX3_isRider_0 : decode cX3_isRider 0 = .ok (.aload_n 0, 1) := dk_42 (dk_at dksX3_isRider_0 0 rfl rfl)
theorem dX3_isRider_1 : decode cX3_isRider 1 = .ok (.iload_n 1, 1) := dk_27 (dk_at dksX3_isRider_0 1 rfl rfl)
theorem dX3_isRider_2 : decode cX3_isRider 2 = .ok (.ifCond .lt 15, 3) := dk_155 0 15 (dk_at dksX3_isRider_0 2 rfl rfl)
theorem dX3_isRider_5 : decode cX3_isRider 5 = .ok (.iload_n 1, 1) := dk_27 (dk_at dksX3_isRider_0 5 rfl rfl)
theorem dX3_isRider_6 : decode cX3_isRider 6 = .ok (.aload_n 0, 1) := dk_42 (dk_at dksX3_isRider_0 6 rfl rfl)
theorem dX3_isRider_7 : decode cX3_isRider 7 = .ok (.getfield 322, 3) := dk_180 1 66 (dk_at dksX3_isRider_0 7 rfl rfl)
theorem dX3_isRider_10 : decode cX3_isRider 10 = .ok (.if_icmp .ge 7, 3) := dk_162 0 7 (dk_at dksX3_isRider_0 10 rfl rfl)
theorem dX3_isRider_13 : decode cX3_isRider 13 = .ok (.iconst 1, 1) := dk_4 (dk_at dksX3_isRider_0 13 rfl rfl)
theorem dX3_isRider_14 : decode cX3_isRider 14 = .ok (.goto 4, 3) := dk_167 0 4 (dk_at dksX3_isRider_0 14 rfl rfl)
theorem dX3_isRider_17 : decode cX3_isRider 17 = .ok (.iconst 0, 1) := dk_3 (dk_at dksX3_isRider_0 17 rfl rfl)
theorem dX3_isRider_18 : decode cX3_isRider 18 = .ok (.iconst 1, 1) := dk_4 (dk_at dksX3_isRider_0 18 rfl rfl)
theorem dX3_isRider_19 : decode cX3_isRider 19 = .ok (.invokevirtual 306, 3) := dk_182 1 50 (dk_at dksX3_isRider_0 19 rfl rfl)
theorem dX3_isRider_22 : decode cX3_isRider 22 = .ok (.ireturn, 1) := dk_172 (dk_at dksX3_isRider_0 22 rfl rfl)
abbrev cX3_where : ByteArray := prog_14_method_70_code
def yX3_where : MethodName := ⟨RX3, "where", "(II)I"⟩
def dkwX3_where_1 : List UInt8 := [182, 1, 143, 172]
abbrev dktX3_where_1 : List UInt8 := dkwX3_where_1 ++ []
def dkwX3_where_0 : List UInt8 := [42, 3, 181, 0, 147, 42, 27, 182, 1, 146, 154, 0, 5, 3, 172, 42, 182, 1, 123, 42, 27, 28]
abbrev dktX3_where_0 : List UInt8 := dkwX3_where_0 ++ dktX3_where_1
theorem dksX3_where_0 : cX3_where.data.toList.drop 0 = dktX3_where_0 := by decide +kernel
theorem dksX3_where_1 : cX3_where.data.toList.drop 22 = dktX3_where_1 := dk_seg dksX3_where_0 22 rfl rfl
theorem dX3_where_0 : decode cX3_where 0 = .ok (.aload_n 0, 1) := dk_42 (dk_at dksX3_where_0 0 rfl rfl)
theorem dX3_where_1 : decode cX3_where 1 = .ok (.iconst 0, 1) := dk_3 (dk_at dksX3_where_0 1 rfl rfl)
theorem dX3_where_2 : decode cX3_where 2 = .ok (.putfield 147, 3) := dk_181 0 147 (dk_at dksX3_where_0 2 rfl rfl)
theorem dX3_where_5 : decode cX3_where 5 = .ok (.aload_n 0, 1) := dk_42 (dk_at dksX3_where_0 5 rfl rfl)
theorem dX3_where_6 : decode cX3_where 6 = .ok (.iload_n 1, 1) := dk_27 (dk_at dksX3_where_0 6 rfl rfl)
theorem dX3_where_7 : decode cX3_where 7 = .ok (.invokevirtual 402, 3) := dk_182 1 146 (dk_at dksX3_where_0 7 rfl rfl)
theorem dX3_where_10 : decode cX3_where 10 = .ok (.ifCond .ne 5, 3) := dk_154 0 5 (dk_at dksX3_where_0 10 rfl rfl)
theorem dX3_where_13 : decode cX3_where 13 = .ok (.iconst 0, 1) := dk_3 (dk_at dksX3_where_0 13 rfl rfl)
theorem dX3_where_14 : decode cX3_where 14 = .ok (.ireturn, 1) := dk_172 (dk_at dksX3_where_0 14 rfl rfl)
theorem dX3_where_15 : decode cX3_where 15 = .ok (.aload_n 0, 1) := dk_42 (dk_at dksX3_where_0 15 rfl rfl)
theorem dX3_where_16 : decode cX3_where 16 = .ok (.invokevirtual 379, 3) := dk_182 1 123 (dk_at dksX3_where_0 16 rfl rfl)
theorem dX3_where_19 : decode cX3_where 19 = .ok (.aload_n 0, 1) := dk_42 (dk_at dksX3_where_0 19 rfl rfl)
theorem dX3_where_20 : decode cX3_where 20 = .ok (.iload_n 1, 1) := dk_27 (dk_at dksX3_where_0 20 rfl rfl)
theorem dX3_where_21 : decode cX3_where 21 = .ok (.iload_n 2, 1) := dk_28 (dk_at dksX3_where_0 21 rfl rfl)
theorem dX3_where_22 : decode cX3_where 22 = .ok (.invokevirtual 399, 3) := dk_182 1 143 (dk_at dksX3_where_1 0 rfl rfl)
theorem dX3_where_25 : decode cX3_where 25 = .ok (.ireturn, 1) := dk_172 (dk_at dksX3_where_1 3 rfl rfl)
abbrev cX3_obey : ByteArray := prog_14_method_71_code
def yX3_obey : MethodName := ⟨RX3, "obey", "(I)Z"⟩
def dkwX3_obey_1 : List UInt8 := [158, 0, 7, 4, 167, 0, 4, 3, 172, 42, 3, 27, 182, 1, 158, 87, 4, 172]
abbrev dktX3_obey_1 : List UInt8 := dkwX3_obey_1 ++ []
def dkwX3_obey_0 : List UInt8 := [42, 3, 181, 0, 147, 27, 2, 161, 0, 11, 27, 42, 180, 1, 69, 161, 0, 17, 42, 4, 182, 1, 155]
abbrev dktX3_obey_0 : List UInt8 := dkwX3_obey_0 ++ dktX3_obey_1
theorem dksX3_obey_0 : cX3_obey.data.toList.drop 0 = dktX3_obey_0 := by decide +kernel
theorem dksX3_obey_1 : cX3_obey.data.toList.drop 23 = dktX3_obey_1 := dk_seg dksX3_obey_0 23 rfl rfl
theorem dX3_obey_0 : decode cX3_obey 0 = .ok (.aload_n 0, 1) := dk_42 (dk_at dksX3_obey_0 0 rfl rfl)
theorem dX3_obey_1 : decode cX3_obey 1 = .ok (.iconst 0, 1) := dk_3 (dk_at dksX3_obey_0 1 rfl rfl)
theorem dX3_obey_2 : decode cX3_obey 2 = .ok (.putfield 147, 3) := dk_181 0 147 (dk_at dksX3_obey_0 2 rfl rfl)
theorem dX3_obey_5 : decode cX3_obey 5 = .ok (.iload_n 1, 1) := dk_27 (dk_at dksX3_obey_0 5 rfl rfl)
theorem dX3_obey_6 : decode cX3_obey 6 = .ok (.iconst (-1), 1) := dk_2 (dk_at dksX3_obey_0 6 rfl rfl)
theorem dX3_obey_7 : decode cX3_obey 7 = .ok (.if_icmp .lt 11, 3) := dk_161 0 11 (dk_at dksX3_obey_0 7 rfl rfl)
theorem dX3_obey_10 : decode cX3_obey 10 = .ok (.iload_n 1, 1) := dk_27 (dk_at dksX3_obey_0 10 rfl rfl)
theorem dX3_obey_11 : decode cX3_obey 11 = .ok (.aload_n 0, 1) := dk_42 (dk_at dksX3_obey_0 11 rfl rfl)
theorem dX3_obey_12 : decode cX3_obey 12 = .ok (.getfield 325, 3) := dk_180 1 69 (dk_at dksX3_obey_0 12 rfl rfl)
theorem dX3_obey_15 : decode cX3_obey 15 = .ok (.if_icmp .lt 17, 3) := dk_161 0 17 (dk_at dksX3_obey_0 15 rfl rfl)
theorem dX3_obey_18 : decode cX3_obey 18 = .ok (.aload_n 0, 1) := dk_42 (dk_at dksX3_obey_0 18 rfl rfl)
theorem dX3_obey_19 : decode cX3_obey 19 = .ok (.iconst 1, 1) := dk_4 (dk_at dksX3_obey_0 19 rfl rfl)
theorem dX3_obey_20 : decode cX3_obey 20 = .ok (.invokevirtual 411, 3) := dk_182 1 155 (dk_at dksX3_obey_0 20 rfl rfl)
theorem dX3_obey_23 : decode cX3_obey 23 = .ok (.ifCond .le 7, 3) := dk_158 0 7 (dk_at dksX3_obey_1 0 rfl rfl)
theorem dX3_obey_26 : decode cX3_obey 26 = .ok (.iconst 1, 1) := dk_4 (dk_at dksX3_obey_1 3 rfl rfl)
theorem dX3_obey_27 : decode cX3_obey 27 = .ok (.goto 4, 3) := dk_167 0 4 (dk_at dksX3_obey_1 4 rfl rfl)
theorem dX3_obey_30 : decode cX3_obey 30 = .ok (.iconst 0, 1) := dk_3 (dk_at dksX3_obey_1 7 rfl rfl)
theorem dX3_obey_31 : decode cX3_obey 31 = .ok (.ireturn, 1) := dk_172 (dk_at dksX3_obey_1 8 rfl rfl)
theorem dX3_obey_32 : decode cX3_obey 32 = .ok (.aload_n 0, 1) := dk_42 (dk_at dksX3_obey_1 9 rfl rfl)
theorem dX3_obey_33 : decode cX3_obey 33 = .ok (.iconst 0, 1) := dk_3 (dk_at dksX3_obey_1 10 rfl rfl)
theorem dX3_obey_34 : decode cX3_obey 34 = .ok (.iload_n 1, 1) := dk_27 (dk_at dksX3_obey_1 11 rfl rfl)
theorem dX3_obey_35 : decode cX3_obey 35 = .ok (.invokevirtual 414, 3) := dk_182 1 158 (dk_at dksX3_obey_1 12 rfl rfl)
theorem dX3_obey_38 : decode cX3_obey 38 = .ok (.pop, 1) := dk_87 (dk_at dksX3_obey_1 15 rfl rfl)
theorem dX3_obey_39 : decode cX3_obey 39 = .ok (.iconst 1, 1) := dk_4 (dk_at dksX3_obey_1 16 rfl rfl)
theorem dX3_obey_40 : decode cX3_obey 40 = .ok (.ireturn, 1) := dk_172 (dk_at dksX3_obey_1 17 rfl rfl)
abbrev cX3_refuses : ByteArray := prog_14_method_41_code
def yX3_refuses : MethodName := ⟨RX3, "refuses", "(I)I"⟩
def dkwX3_refuses_0 : List UInt8 := [42, 180, 0, 41, 27, 92, 46, 4, 96, 79, 2, 172]
abbrev dktX3_refuses_0 : List UInt8 := dkwX3_refuses_0 ++ []
theorem dksX3_refuses_0 : cX3_refuses.data.toList.drop 0 = dktX3_refuses_0 := by decide +kernel
theorem dX3_refuses_0 : decode cX3_refuses 0 = .ok (.aload_n 0, 1) := dk_42 (dk_at dksX3_refuses_0 0 rfl rfl)
theorem dX3_refuses_1 : decode cX3_refuses 1 = .ok (.getfield 41, 3) := dk_180 0 41 (dk_at dksX3_refuses_0 1 rfl rfl)
theorem dX3_refuses_4 : decode cX3_refuses 4 = .ok (.iload_n 1, 1) := dk_27 (dk_at dksX3_refuses_0 4 rfl rfl)
theorem dX3_refuses_5 : decode cX3_refuses 5 = .ok (.dup2, 1) := dk_92 (dk_at dksX3_refuses_0 5 rfl rfl)
theorem dX3_refuses_6 : decode cX3_refuses 6 = .ok (.iaload, 1) := dk_46 (dk_at dksX3_refuses_0 6 rfl rfl)
theorem dX3_refuses_7 : decode cX3_refuses 7 = .ok (.iconst 1, 1) := dk_4 (dk_at dksX3_refuses_0 7 rfl rfl)
theorem dX3_refuses_8 : decode cX3_refuses 8 = .ok (.iadd, 1) := dk_96 (dk_at dksX3_refuses_0 8 rfl rfl)
theorem dX3_refuses_9 : decode cX3_refuses 9 = .ok (.iastore, 1) := dk_79 (dk_at dksX3_refuses_0 9 rfl rfl)
theorem dX3_refuses_10 : decode cX3_refuses 10 = .ok (.iconst (-1), 1) := dk_2 (dk_at dksX3_refuses_0 10 rfl rfl)
theorem dX3_refuses_11 : decode cX3_refuses 11 = .ok (.ireturn, 1) := dk_172 (dk_at dksX3_refuses_0 11 rfl rfl)
abbrev cX3_becomes : ByteArray := prog_14_method_42_code
def yX3_becomes : MethodName := ⟨RX3, "becomes", "(II)I"⟩
def dkwX3_becomes_4 : List UInt8 := [79, 29, 172]
abbrev dktX3_becomes_4 : List UInt8 := dkwX3_becomes_4 ++ []
def dkwX3_becomes_3 : List UInt8 := [180, 1, 79, 104, 4, 96, 29, 79, 42, 89, 180, 1, 79, 4, 96, 181, 1, 79, 42, 180, 0, 78, 27, 28]
abbrev dktX3_becomes_3 : List UInt8 := dkwX3_becomes_3 ++ dktX3_becomes_4
def dkwX3_becomes_2 : List UInt8 := [180, 0, 78, 27, 46, 62, 42, 180, 0, 84, 5, 42, 180, 1, 79, 104, 27, 79, 42, 180, 0, 84, 5, 42]
abbrev dktX3_becomes_2 : List UInt8 := dkwX3_becomes_2 ++ dktX3_becomes_3
def dkwX3_becomes_1 : List UInt8 := [42, 180, 0, 84, 29, 46, 79, 132, 3, 1, 167, 255, 233, 42, 89, 180, 1, 79, 4, 100, 181, 1, 79, 42]
abbrev dktX3_becomes_1 : List UInt8 := dkwX3_becomes_1 ++ dktX3_becomes_2
def dkwX3_becomes_0 : List UInt8 := [42, 180, 1, 79, 16, 40, 160, 0, 41, 5, 62, 29, 16, 80, 162, 0, 23, 42, 180, 0, 84, 29, 5, 100]
abbrev dktX3_becomes_0 : List UInt8 := dkwX3_becomes_0 ++ dktX3_becomes_1
theorem dksX3_becomes_0 : cX3_becomes.data.toList.drop 0 = dktX3_becomes_0 := by decide +kernel
theorem dksX3_becomes_1 : cX3_becomes.data.toList.drop 24 = dktX3_becomes_1 := dk_seg dksX3_becomes_0 24 rfl rfl
theorem dksX3_becomes_2 : cX3_becomes.data.toList.drop 48 = dktX3_becomes_2 := dk_seg dksX3_becomes_1 24 rfl rfl
theorem dksX3_becomes_3 : cX3_becomes.data.toList.drop 72 = dktX3_becomes_3 := dk_seg dksX3_becomes_2 24 rfl rfl
theorem dksX3_becomes_4 : cX3_becomes.data.toList.drop 96 = dktX3_becomes_4 := dk_seg dksX3_becomes_3 24 rfl rfl
theorem dX3_becomes_0 : decode cX3_becomes 0 = .ok (.aload_n 0, 1) := dk_42 (dk_at dksX3_becomes_0 0 rfl rfl)
theorem dX3_becomes_1 : decode cX3_becomes 1 = .ok (.getfield 335, 3) := dk_180 1 79 (dk_at dksX3_becomes_0 1 rfl rfl)
theorem dX3_becomes_4 : decode cX3_becomes 4 = .ok (.bipush 40, 2) := dk_16 40 (dk_at dksX3_becomes_0 4 rfl rfl)
theorem dX3_becomes_6 : decode cX3_becomes 6 = .ok (.if_icmp .ne 41, 3) := dk_160 0 41 (dk_at dksX3_becomes_0 6 rfl rfl)
theorem dX3_becomes_9 : decode cX3_becomes 9 = .ok (.iconst 2, 1) := dk_5 (dk_at dksX3_becomes_0 9 rfl rfl)
theorem dX3_becomes_10 : decode cX3_becomes 10 = .ok (.istore_n 3, 1) := dk_62 (dk_at dksX3_becomes_0 10 rfl rfl)
theorem dX3_becomes_11 : decode cX3_becomes 11 = .ok (.iload_n 3, 1) := dk_29 (dk_at dksX3_becomes_0 11 rfl rfl)
theorem dX3_becomes_12 : decode cX3_becomes 12 = .ok (.bipush 80, 2) := dk_16 80 (dk_at dksX3_becomes_0 12 rfl rfl)
theorem dX3_becomes_14 : decode cX3_becomes 14 = .ok (.if_icmp .ge 23, 3) := dk_162 0 23 (dk_at dksX3_becomes_0 14 rfl rfl)
theorem dX3_becomes_17 : decode cX3_becomes 17 = .ok (.aload_n 0, 1) := dk_42 (dk_at dksX3_becomes_0 17 rfl rfl)
theorem dX3_becomes_18 : decode cX3_becomes 18 = .ok (.getfield 84, 3) := dk_180 0 84 (dk_at dksX3_becomes_0 18 rfl rfl)
theorem dX3_becomes_21 : decode cX3_becomes 21 = .ok (.iload_n 3, 1) := dk_29 (dk_at dksX3_becomes_0 21 rfl rfl)
theorem dX3_becomes_22 : decode cX3_becomes 22 = .ok (.iconst 2, 1) := dk_5 (dk_at dksX3_becomes_0 22 rfl rfl)
theorem dX3_becomes_23 : decode cX3_becomes 23 = .ok (.isub, 1) := dk_100 (dk_at dksX3_becomes_0 23 rfl rfl)
theorem dX3_becomes_24 : decode cX3_becomes 24 = .ok (.aload_n 0, 1) := dk_42 (dk_at dksX3_becomes_1 0 rfl rfl)
theorem dX3_becomes_25 : decode cX3_becomes 25 = .ok (.getfield 84, 3) := dk_180 0 84 (dk_at dksX3_becomes_1 1 rfl rfl)
theorem dX3_becomes_28 : decode cX3_becomes 28 = .ok (.iload_n 3, 1) := dk_29 (dk_at dksX3_becomes_1 4 rfl rfl)
theorem dX3_becomes_29 : decode cX3_becomes 29 = .ok (.iaload, 1) := dk_46 (dk_at dksX3_becomes_1 5 rfl rfl)
theorem dX3_becomes_30 : decode cX3_becomes 30 = .ok (.iastore, 1) := dk_79 (dk_at dksX3_becomes_1 6 rfl rfl)
theorem dX3_becomes_31 : decode cX3_becomes 31 = .ok (.iinc 3 1, 3) := dk_132 3 1 (dk_at dksX3_becomes_1 7 rfl rfl)
theorem dX3_becomes_34 : decode cX3_becomes 34 = .ok (.goto (-23), 3) := dk_167 255 233 (dk_at dksX3_becomes_1 10 rfl rfl)
theorem dX3_becomes_37 : decode cX3_becomes 37 = .ok (.aload_n 0, 1) := dk_42 (dk_at dksX3_becomes_1 13 rfl rfl)
theorem dX3_becomes_38 : decode cX3_becomes 38 = .ok (.dup, 1) := dk_89 (dk_at dksX3_becomes_1 14 rfl rfl)
theorem dX3_becomes_39 : decode cX3_becomes 39 = .ok (.getfield 335, 3) := dk_180 1 79 (dk_at dksX3_becomes_1 15 rfl rfl)
theorem dX3_becomes_42 : decode cX3_becomes 42 = .ok (.iconst 1, 1) := dk_4 (dk_at dksX3_becomes_1 18 rfl rfl)
theorem dX3_becomes_43 : decode cX3_becomes 43 = .ok (.isub, 1) := dk_100 (dk_at dksX3_becomes_1 19 rfl rfl)
theorem dX3_becomes_44 : decode cX3_becomes 44 = .ok (.putfield 335, 3) := dk_181 1 79 (dk_at dksX3_becomes_1 20 rfl rfl)
theorem dX3_becomes_47 : decode cX3_becomes 47 = .ok (.aload_n 0, 1) := dk_42 (dk_at dksX3_becomes_1 23 rfl rfl)
theorem dX3_becomes_48 : decode cX3_becomes 48 = .ok (.getfield 78, 3) := dk_180 0 78 (dk_at dksX3_becomes_2 0 rfl rfl)
theorem dX3_becomes_51 : decode cX3_becomes 51 = .ok (.iload_n 1, 1) := dk_27 (dk_at dksX3_becomes_2 3 rfl rfl)
theorem dX3_becomes_52 : decode cX3_becomes 52 = .ok (.iaload, 1) := dk_46 (dk_at dksX3_becomes_2 4 rfl rfl)
theorem dX3_becomes_53 : decode cX3_becomes 53 = .ok (.istore_n 3, 1) := dk_62 (dk_at dksX3_becomes_2 5 rfl rfl)
theorem dX3_becomes_54 : decode cX3_becomes 54 = .ok (.aload_n 0, 1) := dk_42 (dk_at dksX3_becomes_2 6 rfl rfl)
theorem dX3_becomes_55 : decode cX3_becomes 55 = .ok (.getfield 84, 3) := dk_180 0 84 (dk_at dksX3_becomes_2 7 rfl rfl)
theorem dX3_becomes_58 : decode cX3_becomes 58 = .ok (.iconst 2, 1) := dk_5 (dk_at dksX3_becomes_2 10 rfl rfl)
theorem dX3_becomes_59 : decode cX3_becomes 59 = .ok (.aload_n 0, 1) := dk_42 (dk_at dksX3_becomes_2 11 rfl rfl)
theorem dX3_becomes_60 : decode cX3_becomes 60 = .ok (.getfield 335, 3) := dk_180 1 79 (dk_at dksX3_becomes_2 12 rfl rfl)
theorem dX3_becomes_63 : decode cX3_becomes 63 = .ok (.imul, 1) := dk_104 (dk_at dksX3_becomes_2 15 rfl rfl)
theorem dX3_becomes_64 : decode cX3_becomes 64 = .ok (.iload_n 1, 1) := dk_27 (dk_at dksX3_becomes_2 16 rfl rfl)
theorem dX3_becomes_65 : decode cX3_becomes 65 = .ok (.iastore, 1) := dk_79 (dk_at dksX3_becomes_2 17 rfl rfl)
theorem dX3_becomes_66 : decode cX3_becomes 66 = .ok (.aload_n 0, 1) := dk_42 (dk_at dksX3_becomes_2 18 rfl rfl)
theorem dX3_becomes_67 : decode cX3_becomes 67 = .ok (.getfield 84, 3) := dk_180 0 84 (dk_at dksX3_becomes_2 19 rfl rfl)
theorem dX3_becomes_70 : decode cX3_becomes 70 = .ok (.iconst 2, 1) := dk_5 (dk_at dksX3_becomes_2 22 rfl rfl)
theorem dX3_becomes_71 : decode cX3_becomes 71 = .ok (.aload_n 0, 1) := dk_42 (dk_at dksX3_becomes_2 23 rfl rfl)
theorem dX3_becomes_72 : decode cX3_becomes 72 = .ok (.getfield 335, 3) := dk_180 1 79 (dk_at dksX3_becomes_3 0 rfl rfl)
theorem dX3_becomes_75 : decode cX3_becomes 75 = .ok (.imul, 1) := dk_104 (dk_at dksX3_becomes_3 3 rfl rfl)
theorem dX3_becomes_76 : decode cX3_becomes 76 = .ok (.iconst 1, 1) := dk_4 (dk_at dksX3_becomes_3 4 rfl rfl)
theorem dX3_becomes_77 : decode cX3_becomes 77 = .ok (.iadd, 1) := dk_96 (dk_at dksX3_becomes_3 5 rfl rfl)
theorem dX3_becomes_78 : decode cX3_becomes 78 = .ok (.iload_n 3, 1) := dk_29 (dk_at dksX3_becomes_3 6 rfl rfl)
theorem dX3_becomes_79 : decode cX3_becomes 79 = .ok (.iastore, 1) := dk_79 (dk_at dksX3_becomes_3 7 rfl rfl)
theorem dX3_becomes_80 : decode cX3_becomes 80 = .ok (.aload_n 0, 1) := dk_42 (dk_at dksX3_becomes_3 8 rfl rfl)
theorem dX3_becomes_81 : decode cX3_becomes 81 = .ok (.dup, 1) := dk_89 (dk_at dksX3_becomes_3 9 rfl rfl)
theorem dX3_becomes_82 : decode cX3_becomes 82 = .ok (.getfield 335, 3) := dk_180 1 79 (dk_at dksX3_becomes_3 10 rfl rfl)
theorem dX3_becomes_85 : decode cX3_becomes 85 = .ok (.iconst 1, 1) := dk_4 (dk_at dksX3_becomes_3 13 rfl rfl)
theorem dX3_becomes_86 : decode cX3_becomes 86 = .ok (.iadd, 1) := dk_96 (dk_at dksX3_becomes_3 14 rfl rfl)
theorem dX3_becomes_87 : decode cX3_becomes 87 = .ok (.putfield 335, 3) := dk_181 1 79 (dk_at dksX3_becomes_3 15 rfl rfl)
theorem dX3_becomes_90 : decode cX3_becomes 90 = .ok (.aload_n 0, 1) := dk_42 (dk_at dksX3_becomes_3 18 rfl rfl)
theorem dX3_becomes_91 : decode cX3_becomes 91 = .ok (.getfield 78, 3) := dk_180 0 78 (dk_at dksX3_becomes_3 19 rfl rfl)
theorem dX3_becomes_94 : decode cX3_becomes 94 = .ok (.iload_n 1, 1) := dk_27 (dk_at dksX3_becomes_3 22 rfl rfl)
theorem dX3_becomes_95 : decode cX3_becomes 95 = .ok (.iload_n 2, 1) := dk_28 (dk_at dksX3_becomes_3 23 rfl rfl)
theorem dX3_becomes_96 : decode cX3_becomes 96 = .ok (.iastore, 1) := dk_79 (dk_at dksX3_becomes_4 0 rfl rfl)
theorem dX3_becomes_97 : decode cX3_becomes 97 = .ok (.iload_n 3, 1) := dk_29 (dk_at dksX3_becomes_4 1 rfl rfl)
theorem dX3_becomes_98 : decode cX3_becomes 98 = .ok (.ireturn, 1) := dk_172 (dk_at dksX3_becomes_4 2 rfl rfl)
abbrev cX3_moon : ByteArray := prog_14_method_72_code
def yX3_moon : MethodName := ⟨RX3, "moon", "(I)I"⟩
def dkwX3_moon_1 : List UInt8 := [42, 4, 182, 1, 155, 172]
abbrev dktX3_moon_1 : List UInt8 := dkwX3_moon_1 ++ []
def dkwX3_moon_0 : List UInt8 := [42, 3, 181, 0, 147, 27, 3, 16, 7, 184, 1, 129, 153, 0, 12, 42, 4, 27, 182, 1, 158, 167, 0, 8]
abbrev dktX3_moon_0 : List UInt8 := dkwX3_moon_0 ++ dktX3_moon_1
theorem dksX3_moon_0 : cX3_moon.data.toList.drop 0 = dktX3_moon_0 := by decide +kernel
theorem dksX3_moon_1 : cX3_moon.data.toList.drop 24 = dktX3_moon_1 := dk_seg dksX3_moon_0 24 rfl rfl
theorem dX3_moon_0 : decode cX3_moon 0 = .ok (.aload_n 0, 1) := dk_42 (dk_at dksX3_moon_0 0 rfl rfl)
theorem dX3_moon_1 : decode cX3_moon 1 = .ok (.iconst 0, 1) := dk_3 (dk_at dksX3_moon_0 1 rfl rfl)
theorem dX3_moon_2 : decode cX3_moon 2 = .ok (.putfield 147, 3) := dk_181 0 147 (dk_at dksX3_moon_0 2 rfl rfl)
theorem dX3_moon_5 : decode cX3_moon 5 = .ok (.iload_n 1, 1) := dk_27 (dk_at dksX3_moon_0 5 rfl rfl)
theorem dX3_moon_6 : decode cX3_moon 6 = .ok (.iconst 0, 1) := dk_3 (dk_at dksX3_moon_0 6 rfl rfl)
theorem dX3_moon_7 : decode cX3_moon 7 = .ok (.bipush 7, 2) := dk_16 7 (dk_at dksX3_moon_0 7 rfl rfl)
theorem dX3_moon_9 : decode cX3_moon 9 = .ok (.invokestatic 385, 3) := dk_184 1 129 (dk_at dksX3_moon_0 9 rfl rfl)
theorem dX3_moon_12 : decode cX3_moon 12 = .ok (.ifCond .eq 12, 3) := dk_153 0 12 (dk_at dksX3_moon_0 12 rfl rfl)
theorem dX3_moon_15 : decode cX3_moon 15 = .ok (.aload_n 0, 1) := dk_42 (dk_at dksX3_moon_0 15 rfl rfl)
theorem dX3_moon_16 : decode cX3_moon 16 = .ok (.iconst 1, 1) := dk_4 (dk_at dksX3_moon_0 16 rfl rfl)
theorem dX3_moon_17 : decode cX3_moon 17 = .ok (.iload_n 1, 1) := dk_27 (dk_at dksX3_moon_0 17 rfl rfl)
theorem dX3_moon_18 : decode cX3_moon 18 = .ok (.invokevirtual 414, 3) := dk_182 1 158 (dk_at dksX3_moon_0 18 rfl rfl)
theorem dX3_moon_21 : decode cX3_moon 21 = .ok (.goto 8, 3) := dk_167 0 8 (dk_at dksX3_moon_0 21 rfl rfl)
theorem dX3_moon_24 : decode cX3_moon 24 = .ok (.aload_n 0, 1) := dk_42 (dk_at dksX3_moon_1 0 rfl rfl)
theorem dX3_moon_25 : decode cX3_moon 25 = .ok (.iconst 1, 1) := dk_4 (dk_at dksX3_moon_1 1 rfl rfl)
theorem dX3_moon_26 : decode cX3_moon 26 = .ok (.invokevirtual 411, 3) := dk_182 1 155 (dk_at dksX3_moon_1 2 rfl rfl)
theorem dX3_moon_29 : decode cX3_moon 29 = .ok (.ireturn, 1) := dk_172 (dk_at dksX3_moon_1 5 rfl rfl)
abbrev cX3_wet : ByteArray := prog_14_method_73_code
def yX3_wet : MethodName := ⟨RX3, "wet", "(Z)Z"⟩
def dkwX3_wet_1 : List UInt8 := [167, 0, 4, 3, 172]
abbrev dktX3_wet_1 : List UInt8 := dkwX3_wet_1 ++ []
def dkwX3_wet_0 : List UInt8 := [42, 3, 181, 0, 147, 42, 5, 27, 153, 0, 7, 4, 167, 0, 4, 3, 182, 1, 158, 4, 160, 0, 7, 4]
abbrev dktX3_wet_0 : List UInt8 := dkwX3_wet_0 ++ dktX3_wet_1
theorem dksX3_wet_0 : cX3_wet.data.toList.drop 0 = dktX3_wet_0 := by decide +kernel
theorem dksX3_wet_1 : cX3_wet.data.toList.drop 24 = dktX3_wet_1 := dk_seg dksX3_wet_0 24 rfl rfl
theorem dX3_wet_0 : decode cX3_wet 0 = .ok (.aload_n 0, 1) := dk_42 (dk_at dksX3_wet_0 0 rfl rfl)
theorem dX3_wet_1 : decode cX3_wet 1 = .ok (.iconst 0, 1) := dk_3 (dk_at dksX3_wet_0 1 rfl rfl)
theorem dX3_wet_2 : decode cX3_wet 2 = .ok (.putfield 147, 3) := dk_181 0 147 (dk_at dksX3_wet_0 2 rfl rfl)
theorem dX3_wet_5 : decode cX3_wet 5 = .ok (.aload_n 0, 1) := dk_42 (dk_at dksX3_wet_0 5 rfl rfl)
theorem dX3_wet_6 : decode cX3_wet 6 = .ok (.iconst 2, 1) := dk_5 (dk_at dksX3_wet_0 6 rfl rfl)
theorem dX3_wet_7 : decode cX3_wet 7 = .ok (.iload_n 1, 1) := dk_27 (dk_at dksX3_wet_0 7 rfl rfl)
theorem dX3_wet_8 : decode cX3_wet 8 = .ok (.ifCond .eq 7, 3) := dk_153 0 7 (dk_at dksX3_wet_0 8 rfl rfl)
theorem dX3_wet_11 : decode cX3_wet 11 = .ok (.iconst 1, 1) := dk_4 (dk_at dksX3_wet_0 11 rfl rfl)
theorem dX3_wet_12 : decode cX3_wet 12 = .ok (.goto 4, 3) := dk_167 0 4 (dk_at dksX3_wet_0 12 rfl rfl)
theorem dX3_wet_15 : decode cX3_wet 15 = .ok (.iconst 0, 1) := dk_3 (dk_at dksX3_wet_0 15 rfl rfl)
theorem dX3_wet_16 : decode cX3_wet 16 = .ok (.invokevirtual 414, 3) := dk_182 1 158 (dk_at dksX3_wet_0 16 rfl rfl)
theorem dX3_wet_19 : decode cX3_wet 19 = .ok (.iconst 1, 1) := dk_4 (dk_at dksX3_wet_0 19 rfl rfl)
theorem dX3_wet_20 : decode cX3_wet 20 = .ok (.if_icmp .ne 7, 3) := dk_160 0 7 (dk_at dksX3_wet_0 20 rfl rfl)
theorem dX3_wet_23 : decode cX3_wet 23 = .ok (.iconst 1, 1) := dk_4 (dk_at dksX3_wet_0 23 rfl rfl)
theorem dX3_wet_24 : decode cX3_wet 24 = .ok (.goto 4, 3) := dk_167 0 4 (dk_at dksX3_wet_1 0 rfl rfl)
theorem dX3_wet_27 : decode cX3_wet 27 = .ok (.iconst 0, 1) := dk_3 (dk_at dksX3_wet_1 3 rfl rfl)
theorem dX3_wet_28 : decode cX3_wet 28 = .ok (.ireturn, 1) := dk_172 (dk_at dksX3_wet_1 4 rfl rfl)
abbrev cX3_nest : ByteArray := prog_14_method_74_code
def yX3_nest : MethodName := ⟨RX3, "nest", "(IZ)Z"⟩
def dkwX3_nest_2 : List UInt8 := [120, 130, 182, 1, 158, 87, 4, 172]
abbrev dktX3_nest_2 : List UInt8 := dkwX3_nest_2 ++ []
def dkwX3_nest_1 : List UInt8 := [42, 4, 182, 1, 155, 158, 0, 7, 4, 167, 0, 4, 3, 172, 42, 6, 42, 180, 0, 78, 6, 46, 4, 27]
abbrev dktX3_nest_1 : List UInt8 := dkwX3_nest_1 ++ dktX3_nest_2
def dkwX3_nest_0 : List UInt8 := [42, 3, 181, 0, 147, 42, 27, 182, 1, 146, 154, 0, 5, 3, 172, 42, 27, 182, 1, 100, 28, 160, 0, 17]
abbrev dktX3_nest_0 : List UInt8 := dkwX3_nest_0 ++ dktX3_nest_1
theorem dksX3_nest_0 : cX3_nest.data.toList.drop 0 = dktX3_nest_0 := by decide +kernel
theorem dksX3_nest_1 : cX3_nest.data.toList.drop 24 = dktX3_nest_1 := dk_seg dksX3_nest_0 24 rfl rfl
theorem dksX3_nest_2 : cX3_nest.data.toList.drop 48 = dktX3_nest_2 := dk_seg dksX3_nest_1 24 rfl rfl
theorem dX3_nest_0 : decode cX3_nest 0 = .ok (.aload_n 0, 1) := dk_42 (dk_at dksX3_nest_0 0 rfl rfl)
theorem dX3_nest_1 : decode cX3_nest 1 = .ok (.iconst 0, 1) := dk_3 (dk_at dksX3_nest_0 1 rfl rfl)
theorem dX3_nest_2 : decode cX3_nest 2 = .ok (.putfield 147, 3) := dk_181 0 147 (dk_at dksX3_nest_0 2 rfl rfl)
theorem dX3_nest_5 : decode cX3_nest 5 = .ok (.aload_n 0, 1) := dk_42 (dk_at dksX3_nest_0 5 rfl rfl)
theorem dX3_nest_6 : decode cX3_nest 6 = .ok (.iload_n 1, 1) := dk_27 (dk_at dksX3_nest_0 6 rfl rfl)
theorem dX3_nest_7 : decode cX3_nest 7 = .ok (.invokevirtual 402, 3) := dk_182 1 146 (dk_at dksX3_nest_0 7 rfl rfl)
theorem dX3_nest_10 : decode cX3_nest 10 = .ok (.ifCond .ne 5, 3) := dk_154 0 5 (dk_at dksX3_nest_0 10 rfl rfl)
theorem dX3_nest_13 : decode cX3_nest 13 = .ok (.iconst 0, 1) := dk_3 (dk_at dksX3_nest_0 13 rfl rfl)
theorem dX3_nest_14 : decode cX3_nest 14 = .ok (.ireturn, 1) := dk_172 (dk_at dksX3_nest_0 14 rfl rfl)
theorem dX3_nest_15 : decode cX3_nest 15 = .ok (.aload_n 0, 1) := dk_42 (dk_at dksX3_nest_0 15 rfl rfl)
theorem dX3_nest_16 : decode cX3_nest 16 = .ok (.iload_n 1, 1) := dk_27 (dk_at dksX3_nest_0 16 rfl rfl)
theorem dX3_nest_17 : decode cX3_nest 17 = .ok (.invokevirtual 356, 3) := dk_182 1 100 (dk_at dksX3_nest_0 17 rfl rfl)
theorem dX3_nest_20 : decode cX3_nest 20 = .ok (.iload_n 2, 1) := dk_28 (dk_at dksX3_nest_0 20 rfl rfl)
theorem dX3_nest_21 : decode cX3_nest 21 = .ok (.if_icmp .ne 17, 3) := dk_160 0 17 (dk_at dksX3_nest_0 21 rfl rfl)
theorem dX3_nest_24 : decode cX3_nest 24 = .ok (.aload_n 0, 1) := dk_42 (dk_at dksX3_nest_1 0 rfl rfl)
theorem dX3_nest_25 : decode cX3_nest 25 = .ok (.iconst 1, 1) := dk_4 (dk_at dksX3_nest_1 1 rfl rfl)
theorem dX3_nest_26 : decode cX3_nest 26 = .ok (.invokevirtual 411, 3) := dk_182 1 155 (dk_at dksX3_nest_1 2 rfl rfl)
theorem dX3_nest_29 : decode cX3_nest 29 = .ok (.ifCond .le 7, 3) := dk_158 0 7 (dk_at dksX3_nest_1 5 rfl rfl)
theorem dX3_nest_32 : decode cX3_nest 32 = .ok (.iconst 1, 1) := dk_4 (dk_at dksX3_nest_1 8 rfl rfl)
theorem dX3_nest_33 : decode cX3_nest 33 = .ok (.goto 4, 3) := dk_167 0 4 (dk_at dksX3_nest_1 9 rfl rfl)
theorem dX3_nest_36 : decode cX3_nest 36 = .ok (.iconst 0, 1) := dk_3 (dk_at dksX3_nest_1 12 rfl rfl)
theorem dX3_nest_37 : decode cX3_nest 37 = .ok (.ireturn, 1) := dk_172 (dk_at dksX3_nest_1 13 rfl rfl)
theorem dX3_nest_38 : decode cX3_nest 38 = .ok (.aload_n 0, 1) := dk_42 (dk_at dksX3_nest_1 14 rfl rfl)
theorem dX3_nest_39 : decode cX3_nest 39 = .ok (.iconst 3, 1) := dk_6 (dk_at dksX3_nest_1 15 rfl rfl)
theorem dX3_nest_40 : decode cX3_nest 40 = .ok (.aload_n 0, 1) := dk_42 (dk_at dksX3_nest_1 16 rfl rfl)
theorem dX3_nest_41 : decode cX3_nest 41 = .ok (.getfield 78, 3) := dk_180 0 78 (dk_at dksX3_nest_1 17 rfl rfl)
theorem dX3_nest_44 : decode cX3_nest 44 = .ok (.iconst 3, 1) := dk_6 (dk_at dksX3_nest_1 20 rfl rfl)
theorem dX3_nest_45 : decode cX3_nest 45 = .ok (.iaload, 1) := dk_46 (dk_at dksX3_nest_1 21 rfl rfl)
theorem dX3_nest_46 : decode cX3_nest 46 = .ok (.iconst 1, 1) := dk_4 (dk_at dksX3_nest_1 22 rfl rfl)
theorem dX3_nest_47 : decode cX3_nest 47 = .ok (.iload_n 1, 1) := dk_27 (dk_at dksX3_nest_1 23 rfl rfl)
theorem dX3_nest_48 : decode cX3_nest 48 = .ok (.ishl, 1) := dk_120 (dk_at dksX3_nest_2 0 rfl rfl)
theorem dX3_nest_49 : decode cX3_nest 49 = .ok (.ixor, 1) := dk_130 (dk_at dksX3_nest_2 1 rfl rfl)
theorem dX3_nest_50 : decode cX3_nest 50 = .ok (.invokevirtual 414, 3) := dk_182 1 158 (dk_at dksX3_nest_2 2 rfl rfl)
theorem dX3_nest_53 : decode cX3_nest 53 = .ok (.pop, 1) := dk_87 (dk_at dksX3_nest_2 5 rfl rfl)
theorem dX3_nest_54 : decode cX3_nest 54 = .ok (.iconst 1, 1) := dk_4 (dk_at dksX3_nest_2 6 rfl rfl)
theorem dX3_nest_55 : decode cX3_nest 55 = .ok (.ireturn, 1) := dk_172 (dk_at dksX3_nest_2 7 rfl rfl)
abbrev cX3_grain : ByteArray := prog_14_method_75_code
def yX3_grain : MethodName := ⟨RX3, "grain", "(II)I"⟩
def dkwX3_grain_1 : List UInt8 := [153, 0, 14, 42, 7, 27, 96, 28, 182, 1, 158, 167, 0, 8, 42, 4, 182, 1, 155, 172]
abbrev dktX3_grain_1 : List UInt8 := dkwX3_grain_1 ++ []
def dkwX3_grain_0 : List UInt8 := [42, 3, 181, 0, 147, 42, 27, 182, 1, 136, 154, 0, 5, 3, 172, 28, 3, 16, 9, 184, 1, 129]
abbrev dktX3_grain_0 : List UInt8 := dkwX3_grain_0 ++ dktX3_grain_1
theorem dksX3_grain_0 : cX3_grain.data.toList.drop 0 = dktX3_grain_0 := by decide +kernel
theorem dksX3_grain_1 : cX3_grain.data.toList.drop 22 = dktX3_grain_1 := dk_seg dksX3_grain_0 22 rfl rfl
theorem dX3_grain_0 : decode cX3_grain 0 = .ok (.aload_n 0, 1) := dk_42 (dk_at dksX3_grain_0 0 rfl rfl)
theorem dX3_grain_1 : decode cX3_grain 1 = .ok (.iconst 0, 1) := dk_3 (dk_at dksX3_grain_0 1 rfl rfl)
theorem dX3_grain_2 : decode cX3_grain 2 = .ok (.putfield 147, 3) := dk_181 0 147 (dk_at dksX3_grain_0 2 rfl rfl)
theorem dX3_grain_5 : decode cX3_grain 5 = .ok (.aload_n 0, 1) := dk_42 (dk_at dksX3_grain_0 5 rfl rfl)
theorem dX3_grain_6 : decode cX3_grain 6 = .ok (.iload_n 1, 1) := dk_27 (dk_at dksX3_grain_0 6 rfl rfl)
theorem dX3_grain_7 : decode cX3_grain 7 = .ok (.invokevirtual 392, 3) := dk_182 1 136 (dk_at dksX3_grain_0 7 rfl rfl)
theorem dX3_grain_10 : decode cX3_grain 10 = .ok (.ifCond .ne 5, 3) := dk_154 0 5 (dk_at dksX3_grain_0 10 rfl rfl)
theorem dX3_grain_13 : decode cX3_grain 13 = .ok (.iconst 0, 1) := dk_3 (dk_at dksX3_grain_0 13 rfl rfl)
theorem dX3_grain_14 : decode cX3_grain 14 = .ok (.ireturn, 1) := dk_172 (dk_at dksX3_grain_0 14 rfl rfl)
theorem dX3_grain_15 : decode cX3_grain 15 = .ok (.iload_n 2, 1) := dk_28 (dk_at dksX3_grain_0 15 rfl rfl)
theorem dX3_grain_16 : decode cX3_grain 16 = .ok (.iconst 0, 1) := dk_3 (dk_at dksX3_grain_0 16 rfl rfl)
theorem dX3_grain_17 : decode cX3_grain 17 = .ok (.bipush 9, 2) := dk_16 9 (dk_at dksX3_grain_0 17 rfl rfl)
theorem dX3_grain_19 : decode cX3_grain 19 = .ok (.invokestatic 385, 3) := dk_184 1 129 (dk_at dksX3_grain_0 19 rfl rfl)
theorem dX3_grain_22 : decode cX3_grain 22 = .ok (.ifCond .eq 14, 3) := dk_153 0 14 (dk_at dksX3_grain_1 0 rfl rfl)
theorem dX3_grain_25 : decode cX3_grain 25 = .ok (.aload_n 0, 1) := dk_42 (dk_at dksX3_grain_1 3 rfl rfl)
theorem dX3_grain_26 : decode cX3_grain 26 = .ok (.iconst 4, 1) := dk_7 (dk_at dksX3_grain_1 4 rfl rfl)
theorem dX3_grain_27 : decode cX3_grain 27 = .ok (.iload_n 1, 1) := dk_27 (dk_at dksX3_grain_1 5 rfl rfl)
theorem dX3_grain_28 : decode cX3_grain 28 = .ok (.iadd, 1) := dk_96 (dk_at dksX3_grain_1 6 rfl rfl)
theorem dX3_grain_29 : decode cX3_grain 29 = .ok (.iload_n 2, 1) := dk_28 (dk_at dksX3_grain_1 7 rfl rfl)
theorem dX3_grain_30 : decode cX3_grain 30 = .ok (.invokevirtual 414, 3) := dk_182 1 158 (dk_at dksX3_grain_1 8 rfl rfl)
theorem dX3_grain_33 : decode cX3_grain 33 = .ok (.goto 8, 3) := dk_167 0 8 (dk_at dksX3_grain_1 11 rfl rfl)
theorem dX3_grain_36 : decode cX3_grain 36 = .ok (.aload_n 0, 1) := dk_42 (dk_at dksX3_grain_1 14 rfl rfl)
theorem dX3_grain_37 : decode cX3_grain 37 = .ok (.iconst 1, 1) := dk_4 (dk_at dksX3_grain_1 15 rfl rfl)
theorem dX3_grain_38 : decode cX3_grain 38 = .ok (.invokevirtual 411, 3) := dk_182 1 155 (dk_at dksX3_grain_1 16 rfl rfl)
theorem dX3_grain_41 : decode cX3_grain 41 = .ok (.ireturn, 1) := dk_172 (dk_at dksX3_grain_1 19 rfl rfl)
abbrev cX3_start : ByteArray := prog_14_method_76_code
def yX3_start : MethodName := ⟨RX3, "start", "(II)I"⟩
def dkwX3_start_1 : List UInt8 := [153, 0, 15, 42, 16, 14, 27, 96, 28, 182, 1, 158, 167, 0, 8, 42, 4, 182, 1, 155, 172]
abbrev dktX3_start_1 : List UInt8 := dkwX3_start_1 ++ []
def dkwX3_start_0 : List UInt8 := [42, 3, 181, 0, 147, 42, 27, 182, 1, 146, 154, 0, 5, 3, 172, 28, 3, 17, 1, 44, 184, 1, 129]
abbrev dktX3_start_0 : List UInt8 := dkwX3_start_0 ++ dktX3_start_1
theorem dksX3_start_0 : cX3_start.data.toList.drop 0 = dktX3_start_0 := by decide +kernel
theorem dksX3_start_1 : cX3_start.data.toList.drop 23 = dktX3_start_1 := dk_seg dksX3_start_0 23 rfl rfl
theorem dX3_start_0 : decode cX3_start 0 = .ok (.aload_n 0, 1) := dk_42 (dk_at dksX3_start_0 0 rfl rfl)
theorem dX3_start_1 : decode cX3_start 1 = .ok (.iconst 0, 1) := dk_3 (dk_at dksX3_start_0 1 rfl rfl)
theorem dX3_start_2 : decode cX3_start 2 = .ok (.putfield 147, 3) := dk_181 0 147 (dk_at dksX3_start_0 2 rfl rfl)
theorem dX3_start_5 : decode cX3_start 5 = .ok (.aload_n 0, 1) := dk_42 (dk_at dksX3_start_0 5 rfl rfl)
theorem dX3_start_6 : decode cX3_start 6 = .ok (.iload_n 1, 1) := dk_27 (dk_at dksX3_start_0 6 rfl rfl)
theorem dX3_start_7 : decode cX3_start 7 = .ok (.invokevirtual 402, 3) := dk_182 1 146 (dk_at dksX3_start_0 7 rfl rfl)
theorem dX3_start_10 : decode cX3_start 10 = .ok (.ifCond .ne 5, 3) := dk_154 0 5 (dk_at dksX3_start_0 10 rfl rfl)
theorem dX3_start_13 : decode cX3_start 13 = .ok (.iconst 0, 1) := dk_3 (dk_at dksX3_start_0 13 rfl rfl)
theorem dX3_start_14 : decode cX3_start 14 = .ok (.ireturn, 1) := dk_172 (dk_at dksX3_start_0 14 rfl rfl)
theorem dX3_start_15 : decode cX3_start 15 = .ok (.iload_n 2, 1) := dk_28 (dk_at dksX3_start_0 15 rfl rfl)
theorem dX3_start_16 : decode cX3_start 16 = .ok (.iconst 0, 1) := dk_3 (dk_at dksX3_start_0 16 rfl rfl)
theorem dX3_start_17 : decode cX3_start 17 = .ok (.sipush 300, 3) := dk_17 1 44 (dk_at dksX3_start_0 17 rfl rfl)
theorem dX3_start_20 : decode cX3_start 20 = .ok (.invokestatic 385, 3) := dk_184 1 129 (dk_at dksX3_start_0 20 rfl rfl)
theorem dX3_start_23 : decode cX3_start 23 = .ok (.ifCond .eq 15, 3) := dk_153 0 15 (dk_at dksX3_start_1 0 rfl rfl)
theorem dX3_start_26 : decode cX3_start 26 = .ok (.aload_n 0, 1) := dk_42 (dk_at dksX3_start_1 3 rfl rfl)
theorem dX3_start_27 : decode cX3_start 27 = .ok (.bipush 14, 2) := dk_16 14 (dk_at dksX3_start_1 4 rfl rfl)
theorem dX3_start_29 : decode cX3_start 29 = .ok (.iload_n 1, 1) := dk_27 (dk_at dksX3_start_1 6 rfl rfl)
theorem dX3_start_30 : decode cX3_start 30 = .ok (.iadd, 1) := dk_96 (dk_at dksX3_start_1 7 rfl rfl)
theorem dX3_start_31 : decode cX3_start 31 = .ok (.iload_n 2, 1) := dk_28 (dk_at dksX3_start_1 8 rfl rfl)
theorem dX3_start_32 : decode cX3_start 32 = .ok (.invokevirtual 414, 3) := dk_182 1 158 (dk_at dksX3_start_1 9 rfl rfl)
theorem dX3_start_35 : decode cX3_start 35 = .ok (.goto 8, 3) := dk_167 0 8 (dk_at dksX3_start_1 12 rfl rfl)
theorem dX3_start_38 : decode cX3_start 38 = .ok (.aload_n 0, 1) := dk_42 (dk_at dksX3_start_1 15 rfl rfl)
theorem dX3_start_39 : decode cX3_start 39 = .ok (.iconst 1, 1) := dk_4 (dk_at dksX3_start_1 16 rfl rfl)
theorem dX3_start_40 : decode cX3_start 40 = .ok (.invokevirtual 411, 3) := dk_182 1 155 (dk_at dksX3_start_1 17 rfl rfl)
theorem dX3_start_43 : decode cX3_start 43 = .ok (.ireturn, 1) := dk_172 (dk_at dksX3_start_1 20 rfl rfl)
abbrev cX3_home : ByteArray := prog_14_method_78_code
def yX3_home : MethodName := ⟨RX3, "home", "(I)I"⟩
def dkwX3_home_1 : List UInt8 := [184, 1, 161, 172]
abbrev dktX3_home_1 : List UInt8 := dkwX3_home_1 ++ []
def dkwX3_home_0 : List UInt8 := [42, 3, 181, 0, 147, 42, 27, 182, 1, 152, 154, 0, 5, 3, 172, 42, 182, 1, 123, 42, 27, 182, 1, 126]
abbrev dktX3_home_0 : List UInt8 := dkwX3_home_0 ++ dktX3_home_1
theorem dksX3_home_0 : cX3_home.data.toList.drop 0 = dktX3_home_0 := by decide +kernel
theorem dksX3_home_1 : cX3_home.data.toList.drop 24 = dktX3_home_1 := dk_seg dksX3_home_0 24 rfl rfl
theorem dX3_home_0 : decode cX3_home 0 = .ok (.aload_n 0, 1) := dk_42 (dk_at dksX3_home_0 0 rfl rfl)
theorem dX3_home_1 : decode cX3_home 1 = .ok (.iconst 0, 1) := dk_3 (dk_at dksX3_home_0 1 rfl rfl)
theorem dX3_home_2 : decode cX3_home 2 = .ok (.putfield 147, 3) := dk_181 0 147 (dk_at dksX3_home_0 2 rfl rfl)
theorem dX3_home_5 : decode cX3_home 5 = .ok (.aload_n 0, 1) := dk_42 (dk_at dksX3_home_0 5 rfl rfl)
theorem dX3_home_6 : decode cX3_home 6 = .ok (.iload_n 1, 1) := dk_27 (dk_at dksX3_home_0 6 rfl rfl)
theorem dX3_home_7 : decode cX3_home 7 = .ok (.invokevirtual 408, 3) := dk_182 1 152 (dk_at dksX3_home_0 7 rfl rfl)
theorem dX3_home_10 : decode cX3_home 10 = .ok (.ifCond .ne 5, 3) := dk_154 0 5 (dk_at dksX3_home_0 10 rfl rfl)
theorem dX3_home_13 : decode cX3_home 13 = .ok (.iconst 0, 1) := dk_3 (dk_at dksX3_home_0 13 rfl rfl)
theorem dX3_home_14 : decode cX3_home 14 = .ok (.ireturn, 1) := dk_172 (dk_at dksX3_home_0 14 rfl rfl)
theorem dX3_home_15 : decode cX3_home 15 = .ok (.aload_n 0, 1) := dk_42 (dk_at dksX3_home_0 15 rfl rfl)
theorem dX3_home_16 : decode cX3_home 16 = .ok (.invokevirtual 379, 3) := dk_182 1 123 (dk_at dksX3_home_0 16 rfl rfl)
theorem dX3_home_19 : decode cX3_home 19 = .ok (.aload_n 0, 1) := dk_42 (dk_at dksX3_home_0 19 rfl rfl)
theorem dX3_home_20 : decode cX3_home 20 = .ok (.iload_n 1, 1) := dk_27 (dk_at dksX3_home_0 20 rfl rfl)
theorem dX3_home_21 : decode cX3_home 21 = .ok (.invokevirtual 382, 3) := dk_182 1 126 (dk_at dksX3_home_0 21 rfl rfl)
theorem dX3_home_24 : decode cX3_home 24 = .ok (.invokestatic 417, 3) := dk_184 1 161 (dk_at dksX3_home_1 0 rfl rfl)
theorem dX3_home_27 : decode cX3_home 27 = .ok (.ireturn, 1) := dk_172 (dk_at dksX3_home_1 3 rfl rfl)
abbrev cX3_shown : ByteArray := prog_14_method_77_code
def yX3_shown : MethodName := ⟨RX3, "shown", "(I)I"⟩
def dkwX3_shown_0 : List UInt8 := [26, 19, 1, 92, 161, 0, 7, 2, 167, 0, 4, 26, 172]
abbrev dktX3_shown_0 : List UInt8 := dkwX3_shown_0 ++ []
theorem dksX3_shown_0 : cX3_shown.data.toList.drop 0 = dktX3_shown_0 := by decide +kernel
theorem dX3_shown_0 : decode cX3_shown 0 = .ok (.iload_n 0, 1) := dk_26 (dk_at dksX3_shown_0 0 rfl rfl)
theorem dX3_shown_1 : decode cX3_shown 1 = .ok (.ldc_w 348, 3) := dk_19 1 92 (dk_at dksX3_shown_0 1 rfl rfl)
theorem dX3_shown_4 : decode cX3_shown 4 = .ok (.if_icmp .lt 7, 3) := dk_161 0 7 (dk_at dksX3_shown_0 4 rfl rfl)
theorem dX3_shown_7 : decode cX3_shown 7 = .ok (.iconst (-1), 1) := dk_2 (dk_at dksX3_shown_0 7 rfl rfl)
theorem dX3_shown_8 : decode cX3_shown 8 = .ok (.goto 4, 3) := dk_167 0 4 (dk_at dksX3_shown_0 8 rfl rfl)
theorem dX3_shown_11 : decode cX3_shown 11 = .ok (.iload_n 0, 1) := dk_26 (dk_at dksX3_shown_0 11 rfl rfl)
theorem dX3_shown_12 : decode cX3_shown 12 = .ok (.ireturn, 1) := dk_172 (dk_at dksX3_shown_0 12 rfl rfl)
abbrev cX3_changes : ByteArray := prog_14_method_80_code
def yX3_changes : MethodName := ⟨RX3, "changes", "(I)I"⟩
def dkwX3_changes_1 : List UInt8 := [61, 28, 158, 0, 9, 28, 4, 100, 167, 0, 4, 28, 172]
abbrev dktX3_changes_1 : List UInt8 := dkwX3_changes_1 ++ []
def dkwX3_changes_0 : List UInt8 := [42, 3, 181, 0, 147, 42, 27, 182, 1, 152, 154, 0, 5, 3, 172, 42, 182, 1, 123, 42, 27, 182, 1, 164]
abbrev dktX3_changes_0 : List UInt8 := dkwX3_changes_0 ++ dktX3_changes_1
theorem dksX3_changes_0 : cX3_changes.data.toList.drop 0 = dktX3_changes_0 := by decide +kernel
theorem dksX3_changes_1 : cX3_changes.data.toList.drop 24 = dktX3_changes_1 := dk_seg dksX3_changes_0 24 rfl rfl
theorem dX3_changes_0 : decode cX3_changes 0 = .ok (.aload_n 0, 1) := dk_42 (dk_at dksX3_changes_0 0 rfl rfl)
theorem dX3_changes_1 : decode cX3_changes 1 = .ok (.iconst 0, 1) := dk_3 (dk_at dksX3_changes_0 1 rfl rfl)
theorem dX3_changes_2 : decode cX3_changes 2 = .ok (.putfield 147, 3) := dk_181 0 147 (dk_at dksX3_changes_0 2 rfl rfl)
theorem dX3_changes_5 : decode cX3_changes 5 = .ok (.aload_n 0, 1) := dk_42 (dk_at dksX3_changes_0 5 rfl rfl)
theorem dX3_changes_6 : decode cX3_changes 6 = .ok (.iload_n 1, 1) := dk_27 (dk_at dksX3_changes_0 6 rfl rfl)
theorem dX3_changes_7 : decode cX3_changes 7 = .ok (.invokevirtual 408, 3) := dk_182 1 152 (dk_at dksX3_changes_0 7 rfl rfl)
theorem dX3_changes_10 : decode cX3_changes 10 = .ok (.ifCond .ne 5, 3) := dk_154 0 5 (dk_at dksX3_changes_0 10 rfl rfl)
theorem dX3_changes_13 : decode cX3_changes 13 = .ok (.iconst 0, 1) := dk_3 (dk_at dksX3_changes_0 13 rfl rfl)
theorem dX3_changes_14 : decode cX3_changes 14 = .ok (.ireturn, 1) := dk_172 (dk_at dksX3_changes_0 14 rfl rfl)
theorem dX3_changes_15 : decode cX3_changes 15 = .ok (.aload_n 0, 1) := dk_42 (dk_at dksX3_changes_0 15 rfl rfl)
theorem dX3_changes_16 : decode cX3_changes 16 = .ok (.invokevirtual 379, 3) := dk_182 1 123 (dk_at dksX3_changes_0 16 rfl rfl)
theorem dX3_changes_19 : decode cX3_changes 19 = .ok (.aload_n 0, 1) := dk_42 (dk_at dksX3_changes_0 19 rfl rfl)
theorem dX3_changes_20 : decode cX3_changes 20 = .ok (.iload_n 1, 1) := dk_27 (dk_at dksX3_changes_0 20 rfl rfl)
theorem dX3_changes_21 : decode cX3_changes 21 = .ok (.invokevirtual 420, 3) := dk_182 1 164 (dk_at dksX3_changes_0 21 rfl rfl)
theorem dX3_changes_24 : decode cX3_changes 24 = .ok (.istore_n 2, 1) := dk_61 (dk_at dksX3_changes_1 0 rfl rfl)
theorem dX3_changes_25 : decode cX3_changes 25 = .ok (.iload_n 2, 1) := dk_28 (dk_at dksX3_changes_1 1 rfl rfl)
theorem dX3_changes_26 : decode cX3_changes 26 = .ok (.ifCond .le 9, 3) := dk_158 0 9 (dk_at dksX3_changes_1 2 rfl rfl)
theorem dX3_changes_29 : decode cX3_changes 29 = .ok (.iload_n 2, 1) := dk_28 (dk_at dksX3_changes_1 5 rfl rfl)
theorem dX3_changes_30 : decode cX3_changes 30 = .ok (.iconst 1, 1) := dk_4 (dk_at dksX3_changes_1 6 rfl rfl)
theorem dX3_changes_31 : decode cX3_changes 31 = .ok (.isub, 1) := dk_100 (dk_at dksX3_changes_1 7 rfl rfl)
theorem dX3_changes_32 : decode cX3_changes 32 = .ok (.goto 4, 3) := dk_167 0 4 (dk_at dksX3_changes_1 8 rfl rfl)
theorem dX3_changes_35 : decode cX3_changes 35 = .ok (.iload_n 2, 1) := dk_28 (dk_at dksX3_changes_1 11 rfl rfl)
theorem dX3_changes_36 : decode cX3_changes 36 = .ok (.ireturn, 1) := dk_172 (dk_at dksX3_changes_1 12 rfl rfl)
abbrev cX3_owlsFor : ByteArray := prog_14_method_79_code
def yX3_owlsFor : MethodName := ⟨RX3, "owlsFor", "(I)I"⟩
def dkwX3_owlsFor_3 : List UInt8 := [3, 182, 1, 113, 87, 132, 3, 1, 167, 255, 229, 132, 2, 1, 167, 255, 184, 2, 172]
abbrev dktX3_owlsFor_3 : List UInt8 := dkwX3_owlsFor_3 ++ []
def dkwX3_owlsFor_2 : List UInt8 := [182, 1, 72, 3, 62, 29, 42, 180, 1, 63, 162, 0, 25, 42, 29, 42, 180, 0, 117, 3, 42, 180, 0, 114]
abbrev dktX3_owlsFor_2 : List UInt8 := dkwX3_owlsFor_2 ++ dktX3_owlsFor_3
def dkwX3_owlsFor_1 : List UInt8 := [182, 1, 120, 46, 42, 180, 0, 7, 163, 0, 5, 28, 172, 42, 42, 180, 0, 114, 42, 180, 0, 117]
abbrev dktX3_owlsFor_1 : List UInt8 := dkwX3_owlsFor_1 ++ dktX3_owlsFor_2
def dkwX3_owlsFor_0 : List UInt8 := [42, 27, 42, 180, 0, 114, 182, 1, 109, 3, 61, 28, 16, 10, 163, 0, 72, 42, 180, 0, 114, 42, 27]
abbrev dktX3_owlsFor_0 : List UInt8 := dkwX3_owlsFor_0 ++ dktX3_owlsFor_1
theorem dksX3_owlsFor_0 : cX3_owlsFor.data.toList.drop 0 = dktX3_owlsFor_0 := by decide +kernel
theorem dksX3_owlsFor_1 : cX3_owlsFor.data.toList.drop 23 = dktX3_owlsFor_1 := dk_seg dksX3_owlsFor_0 23 rfl rfl
theorem dksX3_owlsFor_2 : cX3_owlsFor.data.toList.drop 45 = dktX3_owlsFor_2 := dk_seg dksX3_owlsFor_1 22 rfl rfl
theorem dksX3_owlsFor_3 : cX3_owlsFor.data.toList.drop 69 = dktX3_owlsFor_3 := dk_seg dksX3_owlsFor_2 24 rfl rfl
theorem dX3_owlsFor_0 : decode cX3_owlsFor 0 = .ok (.aload_n 0, 1) := dk_42 (dk_at dksX3_owlsFor_0 0 rfl rfl)
theorem dX3_owlsFor_1 : decode cX3_owlsFor 1 = .ok (.iload_n 1, 1) := dk_27 (dk_at dksX3_owlsFor_0 1 rfl rfl)
theorem dX3_owlsFor_2 : decode cX3_owlsFor 2 = .ok (.aload_n 0, 1) := dk_42 (dk_at dksX3_owlsFor_0 2 rfl rfl)
theorem dX3_owlsFor_3 : decode cX3_owlsFor 3 = .ok (.getfield 114, 3) := dk_180 0 114 (dk_at dksX3_owlsFor_0 3 rfl rfl)
theorem dX3_owlsFor_6 : decode cX3_owlsFor 6 = .ok (.invokevirtual 365, 3) := dk_182 1 109 (dk_at dksX3_owlsFor_0 6 rfl rfl)
theorem dX3_owlsFor_9 : decode cX3_owlsFor 9 = .ok (.iconst 0, 1) := dk_3 (dk_at dksX3_owlsFor_0 9 rfl rfl)
theorem dX3_owlsFor_10 : decode cX3_owlsFor 10 = .ok (.istore_n 2, 1) := dk_61 (dk_at dksX3_owlsFor_0 10 rfl rfl)
theorem dX3_owlsFor_11 : decode cX3_owlsFor 11 = .ok (.iload_n 2, 1) := dk_28 (dk_at dksX3_owlsFor_0 11 rfl rfl)
theorem dX3_owlsFor_12 : decode cX3_owlsFor 12 = .ok (.bipush 10, 2) := dk_16 10 (dk_at dksX3_owlsFor_0 12 rfl rfl)
theorem dX3_owlsFor_14 : decode cX3_owlsFor 14 = .ok (.if_icmp .gt 72, 3) := dk_163 0 72 (dk_at dksX3_owlsFor_0 14 rfl rfl)
theorem dX3_owlsFor_17 : decode cX3_owlsFor 17 = .ok (.aload_n 0, 1) := dk_42 (dk_at dksX3_owlsFor_0 17 rfl rfl)
theorem dX3_owlsFor_18 : decode cX3_owlsFor 18 = .ok (.getfield 114, 3) := dk_180 0 114 (dk_at dksX3_owlsFor_0 18 rfl rfl)
theorem dX3_owlsFor_21 : decode cX3_owlsFor 21 = .ok (.aload_n 0, 1) := dk_42 (dk_at dksX3_owlsFor_0 21 rfl rfl)
theorem dX3_owlsFor_22 : decode cX3_owlsFor 22 = .ok (.iload_n 1, 1) := dk_27 (dk_at dksX3_owlsFor_0 22 rfl rfl)
theorem dX3_owlsFor_23 : decode cX3_owlsFor 23 = .ok (.invokevirtual 376, 3) := dk_182 1 120 (dk_at dksX3_owlsFor_1 0 rfl rfl)
theorem dX3_owlsFor_26 : decode cX3_owlsFor 26 = .ok (.iaload, 1) := dk_46 (dk_at dksX3_owlsFor_1 3 rfl rfl)
theorem dX3_owlsFor_27 : decode cX3_owlsFor 27 = .ok (.aload_n 0, 1) := dk_42 (dk_at dksX3_owlsFor_1 4 rfl rfl)
theorem dX3_owlsFor_28 : decode cX3_owlsFor 28 = .ok (.getfield 7, 3) := dk_180 0 7 (dk_at dksX3_owlsFor_1 5 rfl rfl)
theorem dX3_owlsFor_31 : decode cX3_owlsFor 31 = .ok (.if_icmp .gt 5, 3) := dk_163 0 5 (dk_at dksX3_owlsFor_1 8 rfl rfl)
theorem dX3_owlsFor_34 : decode cX3_owlsFor 34 = .ok (.iload_n 2, 1) := dk_28 (dk_at dksX3_owlsFor_1 11 rfl rfl)
theorem dX3_owlsFor_35 : decode cX3_owlsFor 35 = .ok (.ireturn, 1) := dk_172 (dk_at dksX3_owlsFor_1 12 rfl rfl)
theorem dX3_owlsFor_36 : decode cX3_owlsFor 36 = .ok (.aload_n 0, 1) := dk_42 (dk_at dksX3_owlsFor_1 13 rfl rfl)
theorem dX3_owlsFor_37 : decode cX3_owlsFor 37 = .ok (.aload_n 0, 1) := dk_42 (dk_at dksX3_owlsFor_1 14 rfl rfl)
theorem dX3_owlsFor_38 : decode cX3_owlsFor 38 = .ok (.getfield 114, 3) := dk_180 0 114 (dk_at dksX3_owlsFor_1 15 rfl rfl)
theorem dX3_owlsFor_41 : decode cX3_owlsFor 41 = .ok (.aload_n 0, 1) := dk_42 (dk_at dksX3_owlsFor_1 18 rfl rfl)
theorem dX3_owlsFor_42 : decode cX3_owlsFor 42 = .ok (.getfield 117, 3) := dk_180 0 117 (dk_at dksX3_owlsFor_1 19 rfl rfl)
theorem dX3_owlsFor_45 : decode cX3_owlsFor 45 = .ok (.invokevirtual 328, 3) := dk_182 1 72 (dk_at dksX3_owlsFor_2 0 rfl rfl)
theorem dX3_owlsFor_48 : decode cX3_owlsFor 48 = .ok (.iconst 0, 1) := dk_3 (dk_at dksX3_owlsFor_2 3 rfl rfl)
theorem dX3_owlsFor_49 : decode cX3_owlsFor 49 = .ok (.istore_n 3, 1) := dk_62 (dk_at dksX3_owlsFor_2 4 rfl rfl)
theorem dX3_owlsFor_50 : decode cX3_owlsFor 50 = .ok (.iload_n 3, 1) := dk_29 (dk_at dksX3_owlsFor_2 5 rfl rfl)
theorem dX3_owlsFor_51 : decode cX3_owlsFor 51 = .ok (.aload_n 0, 1) := dk_42 (dk_at dksX3_owlsFor_2 6 rfl rfl)
theorem dX3_owlsFor_52 : decode cX3_owlsFor 52 = .ok (.getfield 319, 3) := dk_180 1 63 (dk_at dksX3_owlsFor_2 7 rfl rfl)
theorem dX3_owlsFor_55 : decode cX3_owlsFor 55 = .ok (.if_icmp .ge 25, 3) := dk_162 0 25 (dk_at dksX3_owlsFor_2 10 rfl rfl)
theorem dX3_owlsFor_58 : decode cX3_owlsFor 58 = .ok (.aload_n 0, 1) := dk_42 (dk_at dksX3_owlsFor_2 13 rfl rfl)
theorem dX3_owlsFor_59 : decode cX3_owlsFor 59 = .ok (.iload_n 3, 1) := dk_29 (dk_at dksX3_owlsFor_2 14 rfl rfl)
theorem dX3_owlsFor_60 : decode cX3_owlsFor 60 = .ok (.aload_n 0, 1) := dk_42 (dk_at dksX3_owlsFor_2 15 rfl rfl)
theorem dX3_owlsFor_61 : decode cX3_owlsFor 61 = .ok (.getfield 117, 3) := dk_180 0 117 (dk_at dksX3_owlsFor_2 16 rfl rfl)
theorem dX3_owlsFor_64 : decode cX3_owlsFor 64 = .ok (.iconst 0, 1) := dk_3 (dk_at dksX3_owlsFor_2 19 rfl rfl)
theorem dX3_owlsFor_65 : decode cX3_owlsFor 65 = .ok (.aload_n 0, 1) := dk_42 (dk_at dksX3_owlsFor_2 20 rfl rfl)
theorem dX3_owlsFor_66 : decode cX3_owlsFor 66 = .ok (.getfield 114, 3) := dk_180 0 114 (dk_at dksX3_owlsFor_2 21 rfl rfl)
theorem dX3_owlsFor_69 : decode cX3_owlsFor 69 = .ok (.iconst 0, 1) := dk_3 (dk_at dksX3_owlsFor_3 0 rfl rfl)
theorem dX3_owlsFor_70 : decode cX3_owlsFor 70 = .ok (.invokevirtual 369, 3) := dk_182 1 113 (dk_at dksX3_owlsFor_3 1 rfl rfl)
theorem dX3_owlsFor_73 : decode cX3_owlsFor 73 = .ok (.pop, 1) := dk_87 (dk_at dksX3_owlsFor_3 4 rfl rfl)
theorem dX3_owlsFor_74 : decode cX3_owlsFor 74 = .ok (.iinc 3 1, 3) := dk_132 3 1 (dk_at dksX3_owlsFor_3 5 rfl rfl)
theorem dX3_owlsFor_77 : decode cX3_owlsFor 77 = .ok (.goto (-27), 3) := dk_167 255 229 (dk_at dksX3_owlsFor_3 8 rfl rfl)
theorem dX3_owlsFor_80 : decode cX3_owlsFor 80 = .ok (.iinc 2 1, 3) := dk_132 2 1 (dk_at dksX3_owlsFor_3 11 rfl rfl)
theorem dX3_owlsFor_83 : decode cX3_owlsFor 83 = .ok (.goto (-72), 3) := dk_167 255 184 (dk_at dksX3_owlsFor_3 14 rfl rfl)
theorem dX3_owlsFor_86 : decode cX3_owlsFor 86 = .ok (.iconst (-1), 1) := dk_2 (dk_at dksX3_owlsFor_3 17 rfl rfl)
theorem dX3_owlsFor_87 : decode cX3_owlsFor 87 = .ok (.ireturn, 1) := dk_172 (dk_at dksX3_owlsFor_3 18 rfl rfl)
abbrev cX3_cheapest : ByteArray := prog_14_method_81_code
def yX3_cheapest : MethodName := ⟨RX3, "cheapest", "(I)I"⟩
def dkwX3_cheapest_8 : List UInt8 := [132, 3, 1, 167, 255, 203, 132, 2, 1, 167, 255, 118, 2, 172]
abbrev dktX3_cheapest_8 : List UInt8 := dkwX3_cheapest_8 ++ []
def dkwX3_cheapest_7 : List UInt8 := [180, 0, 17, 29, 46, 100, 104, 42, 180, 0, 120, 16, 10, 28, 104, 16, 10, 96, 182, 1, 113, 87]
abbrev dktX3_cheapest_7 : List UInt8 := dkwX3_cheapest_7 ++ dktX3_cheapest_8
def dkwX3_cheapest_6 : List UInt8 := [162, 0, 51, 42, 180, 0, 17, 29, 46, 28, 163, 0, 35, 42, 29, 42, 180, 0, 120, 16, 10, 28, 42]
abbrev dktX3_cheapest_6 : List UInt8 := dkwX3_cheapest_6 ++ dktX3_cheapest_7
def dkwX3_cheapest_5 : List UInt8 := [180, 0, 120, 16, 10, 28, 104, 29, 96, 46, 79, 132, 3, 1, 167, 255, 222, 3, 62, 29, 42, 180, 1, 63]
abbrev dktX3_cheapest_5 : List UInt8 := dkwX3_cheapest_5 ++ dktX3_cheapest_6
def dkwX3_cheapest_4 : List UInt8 := [3, 62, 29, 16, 10, 162, 0, 34, 42, 180, 0, 120, 16, 10, 28, 104, 16, 10, 96, 29, 96, 42]
abbrev dktX3_cheapest_4 : List UInt8 := dkwX3_cheapest_4 ++ dktX3_cheapest_5
def dkwX3_cheapest_3 : List UInt8 := [42, 27, 182, 1, 120, 96, 46, 42, 180, 0, 7, 163, 0, 5, 28, 172, 28, 16, 39, 160, 0, 5, 2, 172]
abbrev dktX3_cheapest_3 : List UInt8 := dkwX3_cheapest_3 ++ dktX3_cheapest_4
def dkwX3_cheapest_2 : List UInt8 := [46, 79, 132, 2, 1, 167, 255, 235, 3, 61, 28, 16, 40, 162, 0, 138, 42, 180, 0, 120, 16, 10, 28, 104]
abbrev dktX3_cheapest_2 : List UInt8 := dkwX3_cheapest_2 ++ dktX3_cheapest_3
def dkwX3_cheapest_1 : List UInt8 := [180, 0, 114, 182, 1, 109, 3, 61, 28, 16, 10, 162, 0, 21, 42, 180, 0, 120, 28, 42, 180, 0, 114, 28]
abbrev dktX3_cheapest_1 : List UInt8 := dkwX3_cheapest_1 ++ dktX3_cheapest_2
def dkwX3_cheapest_0 : List UInt8 := [42, 3, 181, 0, 147, 42, 27, 182, 1, 152, 154, 0, 5, 3, 172, 42, 182, 1, 123, 42, 27, 42]
abbrev dktX3_cheapest_0 : List UInt8 := dkwX3_cheapest_0 ++ dktX3_cheapest_1
theorem dksX3_cheapest_0 : cX3_cheapest.data.toList.drop 0 = dktX3_cheapest_0 := by decide +kernel
theorem dksX3_cheapest_1 : cX3_cheapest.data.toList.drop 22 = dktX3_cheapest_1 := dk_seg dksX3_cheapest_0 22 rfl rfl
theorem dksX3_cheapest_2 : cX3_cheapest.data.toList.drop 46 = dktX3_cheapest_2 := dk_seg dksX3_cheapest_1 24 rfl rfl
theorem dksX3_cheapest_3 : cX3_cheapest.data.toList.drop 70 = dktX3_cheapest_3 := dk_seg dksX3_cheapest_2 24 rfl rfl
theorem dksX3_cheapest_4 : cX3_cheapest.data.toList.drop 94 = dktX3_cheapest_4 := dk_seg dksX3_cheapest_3 24 rfl rfl
theorem dksX3_cheapest_5 : cX3_cheapest.data.toList.drop 116 = dktX3_cheapest_5 := dk_seg dksX3_cheapest_4 22 rfl rfl
theorem dksX3_cheapest_6 : cX3_cheapest.data.toList.drop 140 = dktX3_cheapest_6 := dk_seg dksX3_cheapest_5 24 rfl rfl
theorem dksX3_cheapest_7 : cX3_cheapest.data.toList.drop 163 = dktX3_cheapest_7 := dk_seg dksX3_cheapest_6 23 rfl rfl
theorem dksX3_cheapest_8 : cX3_cheapest.data.toList.drop 185 = dktX3_cheapest_8 := dk_seg dksX3_cheapest_7 22 rfl rfl
theorem dX3_cheapest_0 : decode cX3_cheapest 0 = .ok (.aload_n 0, 1) := dk_42 (dk_at dksX3_cheapest_0 0 rfl rfl)
theorem dX3_cheapest_1 : decode cX3_cheapest 1 = .ok (.iconst 0, 1) := dk_3 (dk_at dksX3_cheapest_0 1 rfl rfl)
theorem dX3_cheapest_2 : decode cX3_cheapest 2 = .ok (.putfield 147, 3) := dk_181 0 147 (dk_at dksX3_cheapest_0 2 rfl rfl)
theorem dX3_cheapest_5 : decode cX3_cheapest 5 = .ok (.aload_n 0, 1) := dk_42 (dk_at dksX3_cheapest_0 5 rfl rfl)
theorem dX3_cheapest_6 : decode cX3_cheapest 6 = .ok (.iload_n 1, 1) := dk_27 (dk_at dksX3_cheapest_0 6 rfl rfl)
theorem dX3_cheapest_7 : decode cX3_cheapest 7 = .ok (.invokevirtual 408, 3) := dk_182 1 152 (dk_at dksX3_cheapest_0 7 rfl rfl)
theorem dX3_cheapest_10 : decode cX3_cheapest 10 = .ok (.ifCond .ne 5, 3) := dk_154 0 5 (dk_at dksX3_cheapest_0 10 rfl rfl)
theorem dX3_cheapest_13 : decode cX3_cheapest 13 = .ok (.iconst 0, 1) := dk_3 (dk_at dksX3_cheapest_0 13 rfl rfl)
theorem dX3_cheapest_14 : decode cX3_cheapest 14 = .ok (.ireturn, 1) := dk_172 (dk_at dksX3_cheapest_0 14 rfl rfl)
theorem dX3_cheapest_15 : decode cX3_cheapest 15 = .ok (.aload_n 0, 1) := dk_42 (dk_at dksX3_cheapest_0 15 rfl rfl)
theorem dX3_cheapest_16 : decode cX3_cheapest 16 = .ok (.invokevirtual 379, 3) := dk_182 1 123 (dk_at dksX3_cheapest_0 16 rfl rfl)
theorem dX3_cheapest_19 : decode cX3_cheapest 19 = .ok (.aload_n 0, 1) := dk_42 (dk_at dksX3_cheapest_0 19 rfl rfl)
theorem dX3_cheapest_20 : decode cX3_cheapest 20 = .ok (.iload_n 1, 1) := dk_27 (dk_at dksX3_cheapest_0 20 rfl rfl)
theorem dX3_cheapest_21 : decode cX3_cheapest 21 = .ok (.aload_n 0, 1) := dk_42 (dk_at dksX3_cheapest_0 21 rfl rfl)
theorem dX3_cheapest_22 : decode cX3_cheapest 22 = .ok (.getfield 114, 3) := dk_180 0 114 (dk_at dksX3_cheapest_1 0 rfl rfl)
theorem dX3_cheapest_25 : decode cX3_cheapest 25 = .ok (.invokevirtual 365, 3) := dk_182 1 109 (dk_at dksX3_cheapest_1 3 rfl rfl)
theorem dX3_cheapest_28 : decode cX3_cheapest 28 = .ok (.iconst 0, 1) := dk_3 (dk_at dksX3_cheapest_1 6 rfl rfl)
theorem dX3_cheapest_29 : decode cX3_cheapest 29 = .ok (.istore_n 2, 1) := dk_61 (dk_at dksX3_cheapest_1 7 rfl rfl)
theorem dX3_cheapest_30 : decode cX3_cheapest 30 = .ok (.iload_n 2, 1) := dk_28 (dk_at dksX3_cheapest_1 8 rfl rfl)
theorem dX3_cheapest_31 : decode cX3_cheapest 31 = .ok (.bipush 10, 2) := dk_16 10 (dk_at dksX3_cheapest_1 9 rfl rfl)
theorem dX3_cheapest_33 : decode cX3_cheapest 33 = .ok (.if_icmp .ge 21, 3) := dk_162 0 21 (dk_at dksX3_cheapest_1 11 rfl rfl)
theorem dX3_cheapest_36 : decode cX3_cheapest 36 = .ok (.aload_n 0, 1) := dk_42 (dk_at dksX3_cheapest_1 14 rfl rfl)
theorem dX3_cheapest_37 : decode cX3_cheapest 37 = .ok (.getfield 120, 3) := dk_180 0 120 (dk_at dksX3_cheapest_1 15 rfl rfl)
theorem dX3_cheapest_40 : decode cX3_cheapest 40 = .ok (.iload_n 2, 1) := dk_28 (dk_at dksX3_cheapest_1 18 rfl rfl)
theorem dX3_cheapest_41 : decode cX3_cheapest 41 = .ok (.aload_n 0, 1) := dk_42 (dk_at dksX3_cheapest_1 19 rfl rfl)
theorem dX3_cheapest_42 : decode cX3_cheapest 42 = .ok (.getfield 114, 3) := dk_180 0 114 (dk_at dksX3_cheapest_1 20 rfl rfl)
theorem dX3_cheapest_45 : decode cX3_cheapest 45 = .ok (.iload_n 2, 1) := dk_28 (dk_at dksX3_cheapest_1 23 rfl rfl)
theorem dX3_cheapest_46 : decode cX3_cheapest 46 = .ok (.iaload, 1) := dk_46 (dk_at dksX3_cheapest_2 0 rfl rfl)
theorem dX3_cheapest_47 : decode cX3_cheapest 47 = .ok (.iastore, 1) := dk_79 (dk_at dksX3_cheapest_2 1 rfl rfl)
theorem dX3_cheapest_48 : decode cX3_cheapest 48 = .ok (.iinc 2 1, 3) := dk_132 2 1 (dk_at dksX3_cheapest_2 2 rfl rfl)
theorem dX3_cheapest_51 : decode cX3_cheapest 51 = .ok (.goto (-21), 3) := dk_167 255 235 (dk_at dksX3_cheapest_2 5 rfl rfl)
theorem dX3_cheapest_54 : decode cX3_cheapest 54 = .ok (.iconst 0, 1) := dk_3 (dk_at dksX3_cheapest_2 8 rfl rfl)
theorem dX3_cheapest_55 : decode cX3_cheapest 55 = .ok (.istore_n 2, 1) := dk_61 (dk_at dksX3_cheapest_2 9 rfl rfl)
theorem dX3_cheapest_56 : decode cX3_cheapest 56 = .ok (.iload_n 2, 1) := dk_28 (dk_at dksX3_cheapest_2 10 rfl rfl)
theorem dX3_cheapest_57 : decode cX3_cheapest 57 = .ok (.bipush 40, 2) := dk_16 40 (dk_at dksX3_cheapest_2 11 rfl rfl)
theorem dX3_cheapest_59 : decode cX3_cheapest 59 = .ok (.if_icmp .ge 138, 3) := dk_162 0 138 (dk_at dksX3_cheapest_2 13 rfl rfl)
theorem dX3_cheapest_62 : decode cX3_cheapest 62 = .ok (.aload_n 0, 1) := dk_42 (dk_at dksX3_cheapest_2 16 rfl rfl)
theorem dX3_cheapest_63 : decode cX3_cheapest 63 = .ok (.getfield 120, 3) := dk_180 0 120 (dk_at dksX3_cheapest_2 17 rfl rfl)
theorem dX3_cheapest_66 : decode cX3_cheapest 66 = .ok (.bipush 10, 2) := dk_16 10 (dk_at dksX3_cheapest_2 20 rfl rfl)
theorem dX3_cheapest_68 : decode cX3_cheapest 68 = .ok (.iload_n 2, 1) := dk_28 (dk_at dksX3_cheapest_2 22 rfl rfl)
theorem dX3_cheapest_69 : decode cX3_cheapest 69 = .ok (.imul, 1) := dk_104 (dk_at dksX3_cheapest_2 23 rfl rfl)
theorem dX3_cheapest_70 : decode cX3_cheapest 70 = .ok (.aload_n 0, 1) := dk_42 (dk_at dksX3_cheapest_3 0 rfl rfl)
theorem dX3_cheapest_71 : decode cX3_cheapest 71 = .ok (.iload_n 1, 1) := dk_27 (dk_at dksX3_cheapest_3 1 rfl rfl)
theorem dX3_cheapest_72 : decode cX3_cheapest 72 = .ok (.invokevirtual 376, 3) := dk_182 1 120 (dk_at dksX3_cheapest_3 2 rfl rfl)
theorem dX3_cheapest_75 : decode cX3_cheapest 75 = .ok (.iadd, 1) := dk_96 (dk_at dksX3_cheapest_3 5 rfl rfl)
theorem dX3_cheapest_76 : decode cX3_cheapest 76 = .ok (.iaload, 1) := dk_46 (dk_at dksX3_cheapest_3 6 rfl rfl)
theorem dX3_cheapest_77 : decode cX3_cheapest 77 = .ok (.aload_n 0, 1) := dk_42 (dk_at dksX3_cheapest_3 7 rfl rfl)
theorem dX3_cheapest_78 : decode cX3_cheapest 78 = .ok (.getfield 7, 3) := dk_180 0 7 (dk_at dksX3_cheapest_3 8 rfl rfl)
theorem dX3_cheapest_81 : decode cX3_cheapest 81 = .ok (.if_icmp .gt 5, 3) := dk_163 0 5 (dk_at dksX3_cheapest_3 11 rfl rfl)
theorem dX3_cheapest_84 : decode cX3_cheapest 84 = .ok (.iload_n 2, 1) := dk_28 (dk_at dksX3_cheapest_3 14 rfl rfl)
theorem dX3_cheapest_85 : decode cX3_cheapest 85 = .ok (.ireturn, 1) := dk_172 (dk_at dksX3_cheapest_3 15 rfl rfl)
theorem dX3_cheapest_86 : decode cX3_cheapest 86 = .ok (.iload_n 2, 1) := dk_28 (dk_at dksX3_cheapest_3 16 rfl rfl)
theorem dX3_cheapest_87 : decode cX3_cheapest 87 = .ok (.bipush 39, 2) := dk_16 39 (dk_at dksX3_cheapest_3 17 rfl rfl)
theorem dX3_cheapest_89 : decode cX3_cheapest 89 = .ok (.if_icmp .ne 5, 3) := dk_160 0 5 (dk_at dksX3_cheapest_3 19 rfl rfl)
theorem dX3_cheapest_92 : decode cX3_cheapest 92 = .ok (.iconst (-1), 1) := dk_2 (dk_at dksX3_cheapest_3 22 rfl rfl)
theorem dX3_cheapest_93 : decode cX3_cheapest 93 = .ok (.ireturn, 1) := dk_172 (dk_at dksX3_cheapest_3 23 rfl rfl)
theorem dX3_cheapest_94 : decode cX3_cheapest 94 = .ok (.iconst 0, 1) := dk_3 (dk_at dksX3_cheapest_4 0 rfl rfl)
theorem dX3_cheapest_95 : decode cX3_cheapest 95 = .ok (.istore_n 3, 1) := dk_62 (dk_at dksX3_cheapest_4 1 rfl rfl)
theorem dX3_cheapest_96 : decode cX3_cheapest 96 = .ok (.iload_n 3, 1) := dk_29 (dk_at dksX3_cheapest_4 2 rfl rfl)
theorem dX3_cheapest_97 : decode cX3_cheapest 97 = .ok (.bipush 10, 2) := dk_16 10 (dk_at dksX3_cheapest_4 3 rfl rfl)
theorem dX3_cheapest_99 : decode cX3_cheapest 99 = .ok (.if_icmp .ge 34, 3) := dk_162 0 34 (dk_at dksX3_cheapest_4 5 rfl rfl)
theorem dX3_cheapest_102 : decode cX3_cheapest 102 = .ok (.aload_n 0, 1) := dk_42 (dk_at dksX3_cheapest_4 8 rfl rfl)
theorem dX3_cheapest_103 : decode cX3_cheapest 103 = .ok (.getfield 120, 3) := dk_180 0 120 (dk_at dksX3_cheapest_4 9 rfl rfl)
theorem dX3_cheapest_106 : decode cX3_cheapest 106 = .ok (.bipush 10, 2) := dk_16 10 (dk_at dksX3_cheapest_4 12 rfl rfl)
theorem dX3_cheapest_108 : decode cX3_cheapest 108 = .ok (.iload_n 2, 1) := dk_28 (dk_at dksX3_cheapest_4 14 rfl rfl)
theorem dX3_cheapest_109 : decode cX3_cheapest 109 = .ok (.imul, 1) := dk_104 (dk_at dksX3_cheapest_4 15 rfl rfl)
theorem dX3_cheapest_110 : decode cX3_cheapest 110 = .ok (.bipush 10, 2) := dk_16 10 (dk_at dksX3_cheapest_4 16 rfl rfl)
theorem dX3_cheapest_112 : decode cX3_cheapest 112 = .ok (.iadd, 1) := dk_96 (dk_at dksX3_cheapest_4 18 rfl rfl)
theorem dX3_cheapest_113 : decode cX3_cheapest 113 = .ok (.iload_n 3, 1) := dk_29 (dk_at dksX3_cheapest_4 19 rfl rfl)
theorem dX3_cheapest_114 : decode cX3_cheapest 114 = .ok (.iadd, 1) := dk_96 (dk_at dksX3_cheapest_4 20 rfl rfl)
theorem dX3_cheapest_115 : decode cX3_cheapest 115 = .ok (.aload_n 0, 1) := dk_42 (dk_at dksX3_cheapest_4 21 rfl rfl)
theorem dX3_cheapest_116 : decode cX3_cheapest 116 = .ok (.getfield 120, 3) := dk_180 0 120 (dk_at dksX3_cheapest_5 0 rfl rfl)
theorem dX3_cheapest_119 : decode cX3_cheapest 119 = .ok (.bipush 10, 2) := dk_16 10 (dk_at dksX3_cheapest_5 3 rfl rfl)
theorem dX3_cheapest_121 : decode cX3_cheapest 121 = .ok (.iload_n 2, 1) := dk_28 (dk_at dksX3_cheapest_5 5 rfl rfl)
theorem dX3_cheapest_122 : decode cX3_cheapest 122 = .ok (.imul, 1) := dk_104 (dk_at dksX3_cheapest_5 6 rfl rfl)
theorem dX3_cheapest_123 : decode cX3_cheapest 123 = .ok (.iload_n 3, 1) := dk_29 (dk_at dksX3_cheapest_5 7 rfl rfl)
theorem dX3_cheapest_124 : decode cX3_cheapest 124 = .ok (.iadd, 1) := dk_96 (dk_at dksX3_cheapest_5 8 rfl rfl)
theorem dX3_cheapest_125 : decode cX3_cheapest 125 = .ok (.iaload, 1) := dk_46 (dk_at dksX3_cheapest_5 9 rfl rfl)
theorem dX3_cheapest_126 : decode cX3_cheapest 126 = .ok (.iastore, 1) := dk_79 (dk_at dksX3_cheapest_5 10 rfl rfl)
theorem dX3_cheapest_127 : decode cX3_cheapest 127 = .ok (.iinc 3 1, 3) := dk_132 3 1 (dk_at dksX3_cheapest_5 11 rfl rfl)
theorem dX3_cheapest_130 : decode cX3_cheapest 130 = .ok (.goto (-34), 3) := dk_167 255 222 (dk_at dksX3_cheapest_5 14 rfl rfl)
theorem dX3_cheapest_133 : decode cX3_cheapest 133 = .ok (.iconst 0, 1) := dk_3 (dk_at dksX3_cheapest_5 17 rfl rfl)
theorem dX3_cheapest_134 : decode cX3_cheapest 134 = .ok (.istore_n 3, 1) := dk_62 (dk_at dksX3_cheapest_5 18 rfl rfl)
theorem dX3_cheapest_135 : decode cX3_cheapest 135 = .ok (.iload_n 3, 1) := dk_29 (dk_at dksX3_cheapest_5 19 rfl rfl)
theorem dX3_cheapest_136 : decode cX3_cheapest 136 = .ok (.aload_n 0, 1) := dk_42 (dk_at dksX3_cheapest_5 20 rfl rfl)
theorem dX3_cheapest_137 : decode cX3_cheapest 137 = .ok (.getfield 319, 3) := dk_180 1 63 (dk_at dksX3_cheapest_5 21 rfl rfl)
theorem dX3_cheapest_140 : decode cX3_cheapest 140 = .ok (.if_icmp .ge 51, 3) := dk_162 0 51 (dk_at dksX3_cheapest_6 0 rfl rfl)
theorem dX3_cheapest_143 : decode cX3_cheapest 143 = .ok (.aload_n 0, 1) := dk_42 (dk_at dksX3_cheapest_6 3 rfl rfl)
theorem dX3_cheapest_144 : decode cX3_cheapest 144 = .ok (.getfield 17, 3) := dk_180 0 17 (dk_at dksX3_cheapest_6 4 rfl rfl)
theorem dX3_cheapest_147 : decode cX3_cheapest 147 = .ok (.iload_n 3, 1) := dk_29 (dk_at dksX3_cheapest_6 7 rfl rfl)
theorem dX3_cheapest_148 : decode cX3_cheapest 148 = .ok (.iaload, 1) := dk_46 (dk_at dksX3_cheapest_6 8 rfl rfl)
theorem dX3_cheapest_149 : decode cX3_cheapest 149 = .ok (.iload_n 2, 1) := dk_28 (dk_at dksX3_cheapest_6 9 rfl rfl)
theorem dX3_cheapest_150 : decode cX3_cheapest 150 = .ok (.if_icmp .gt 35, 3) := dk_163 0 35 (dk_at dksX3_cheapest_6 10 rfl rfl)
theorem dX3_cheapest_153 : decode cX3_cheapest 153 = .ok (.aload_n 0, 1) := dk_42 (dk_at dksX3_cheapest_6 13 rfl rfl)
theorem dX3_cheapest_154 : decode cX3_cheapest 154 = .ok (.iload_n 3, 1) := dk_29 (dk_at dksX3_cheapest_6 14 rfl rfl)
theorem dX3_cheapest_155 : decode cX3_cheapest 155 = .ok (.aload_n 0, 1) := dk_42 (dk_at dksX3_cheapest_6 15 rfl rfl)
theorem dX3_cheapest_156 : decode cX3_cheapest 156 = .ok (.getfield 120, 3) := dk_180 0 120 (dk_at dksX3_cheapest_6 16 rfl rfl)
theorem dX3_cheapest_159 : decode cX3_cheapest 159 = .ok (.bipush 10, 2) := dk_16 10 (dk_at dksX3_cheapest_6 19 rfl rfl)
theorem dX3_cheapest_161 : decode cX3_cheapest 161 = .ok (.iload_n 2, 1) := dk_28 (dk_at dksX3_cheapest_6 21 rfl rfl)
theorem dX3_cheapest_162 : decode cX3_cheapest 162 = .ok (.aload_n 0, 1) := dk_42 (dk_at dksX3_cheapest_6 22 rfl rfl)
theorem dX3_cheapest_163 : decode cX3_cheapest 163 = .ok (.getfield 17, 3) := dk_180 0 17 (dk_at dksX3_cheapest_7 0 rfl rfl)
theorem dX3_cheapest_166 : decode cX3_cheapest 166 = .ok (.iload_n 3, 1) := dk_29 (dk_at dksX3_cheapest_7 3 rfl rfl)
theorem dX3_cheapest_167 : decode cX3_cheapest 167 = .ok (.iaload, 1) := dk_46 (dk_at dksX3_cheapest_7 4 rfl rfl)
theorem dX3_cheapest_168 : decode cX3_cheapest 168 = .ok (.isub, 1) := dk_100 (dk_at dksX3_cheapest_7 5 rfl rfl)
theorem dX3_cheapest_169 : decode cX3_cheapest 169 = .ok (.imul, 1) := dk_104 (dk_at dksX3_cheapest_7 6 rfl rfl)
theorem dX3_cheapest_170 : decode cX3_cheapest 170 = .ok (.aload_n 0, 1) := dk_42 (dk_at dksX3_cheapest_7 7 rfl rfl)
theorem dX3_cheapest_171 : decode cX3_cheapest 171 = .ok (.getfield 120, 3) := dk_180 0 120 (dk_at dksX3_cheapest_7 8 rfl rfl)
theorem dX3_cheapest_174 : decode cX3_cheapest 174 = .ok (.bipush 10, 2) := dk_16 10 (dk_at dksX3_cheapest_7 11 rfl rfl)
theorem dX3_cheapest_176 : decode cX3_cheapest 176 = .ok (.iload_n 2, 1) := dk_28 (dk_at dksX3_cheapest_7 13 rfl rfl)
theorem dX3_cheapest_177 : decode cX3_cheapest 177 = .ok (.imul, 1) := dk_104 (dk_at dksX3_cheapest_7 14 rfl rfl)
theorem dX3_cheapest_178 : decode cX3_cheapest 178 = .ok (.bipush 10, 2) := dk_16 10 (dk_at dksX3_cheapest_7 15 rfl rfl)
theorem dX3_cheapest_180 : decode cX3_cheapest 180 = .ok (.iadd, 1) := dk_96 (dk_at dksX3_cheapest_7 17 rfl rfl)
theorem dX3_cheapest_181 : decode cX3_cheapest 181 = .ok (.invokevirtual 369, 3) := dk_182 1 113 (dk_at dksX3_cheapest_7 18 rfl rfl)
theorem dX3_cheapest_184 : decode cX3_cheapest 184 = .ok (.pop, 1) := dk_87 (dk_at dksX3_cheapest_7 21 rfl rfl)
theorem dX3_cheapest_185 : decode cX3_cheapest 185 = .ok (.iinc 3 1, 3) := dk_132 3 1 (dk_at dksX3_cheapest_8 0 rfl rfl)
theorem dX3_cheapest_188 : decode cX3_cheapest 188 = .ok (.goto (-53), 3) := dk_167 255 203 (dk_at dksX3_cheapest_8 3 rfl rfl)
theorem dX3_cheapest_191 : decode cX3_cheapest 191 = .ok (.iinc 2 1, 3) := dk_132 2 1 (dk_at dksX3_cheapest_8 6 rfl rfl)
theorem dX3_cheapest_194 : decode cX3_cheapest 194 = .ok (.goto (-138), 3) := dk_167 255 118 (dk_at dksX3_cheapest_8 9 rfl rfl)
theorem dX3_cheapest_197 : decode cX3_cheapest 197 = .ok (.iconst (-1), 1) := dk_2 (dk_at dksX3_cheapest_8 12 rfl rfl)
theorem dX3_cheapest_198 : decode cX3_cheapest 198 = .ok (.ireturn, 1) := dk_172 (dk_at dksX3_cheapest_8 13 rfl rfl)
abbrev cX3_last : ByteArray := prog_14_method_82_code
def yX3_last : MethodName := ⟨RX3, "last", "(I)I"⟩
def dkwX3_last_7 : List UInt8 := [132, 3, 1, 167, 255, 133, 2, 172]
abbrev dktX3_last_7 : List UInt8 := dkwX3_last_7 ++ []
def dkwX3_last_6 : List UInt8 := [16, 8, 29, 104, 21, 5, 96, 46, 163, 0, 7, 4, 167, 0, 4, 3, 54, 4, 132, 5, 1, 167, 255, 153]
abbrev dktX3_last_6 : List UInt8 := dkwX3_last_6 ++ dktX3_last_7
def dkwX3_last_5 : List UInt8 := [46, 28, 160, 0, 5, 29, 172, 21, 4, 154, 0, 25, 42, 180, 0, 114, 21, 6, 46, 42, 180, 0, 99]
abbrev dktX3_last_5 : List UInt8 := dkwX3_last_5 ++ dktX3_last_6
def dkwX3_last_4 : List UInt8 := [153, 0, 31, 21, 6, 42, 27, 182, 1, 120, 160, 0, 21, 42, 180, 0, 96, 16, 8, 29, 104, 21, 5, 96]
abbrev dktX3_last_4 : List UInt8 := dkwX3_last_4 ++ dktX3_last_5
def dkwX3_last_3 : List UInt8 := [29, 182, 1, 100, 154, 0, 90, 42, 180, 0, 23, 16, 8, 29, 104, 21, 5, 96, 46, 54, 6, 21, 4]
abbrev dktX3_last_3 : List UInt8 := dkwX3_last_3 ++ dktX3_last_4
def dkwX3_last_2 : List UInt8 := [180, 1, 63, 162, 0, 121, 3, 54, 4, 3, 54, 5, 21, 5, 42, 180, 0, 20, 29, 46, 162, 0, 98, 42]
abbrev dktX3_last_2 : List UInt8 := dkwX3_last_2 ++ dktX3_last_3
def dkwX3_last_1 : List UInt8 := [61, 28, 19, 1, 92, 162, 0, 11, 42, 27, 182, 1, 167, 153, 0, 5, 2, 172, 3, 62, 29, 42]
abbrev dktX3_last_1 : List UInt8 := dkwX3_last_1 ++ dktX3_last_2
def dkwX3_last_0 : List UInt8 := [42, 3, 181, 0, 147, 42, 27, 182, 1, 152, 154, 0, 5, 3, 172, 42, 182, 1, 123, 42, 27, 182, 1, 126]
abbrev dktX3_last_0 : List UInt8 := dkwX3_last_0 ++ dktX3_last_1
theorem dksX3_last_0 : cX3_last.data.toList.drop 0 = dktX3_last_0 := by decide +kernel
theorem dksX3_last_1 : cX3_last.data.toList.drop 24 = dktX3_last_1 := dk_seg dksX3_last_0 24 rfl rfl
theorem dksX3_last_2 : cX3_last.data.toList.drop 46 = dktX3_last_2 := dk_seg dksX3_last_1 22 rfl rfl
theorem dksX3_last_3 : cX3_last.data.toList.drop 70 = dktX3_last_3 := dk_seg dksX3_last_2 24 rfl rfl
theorem dksX3_last_4 : cX3_last.data.toList.drop 93 = dktX3_last_4 := dk_seg dksX3_last_3 23 rfl rfl
theorem dksX3_last_5 : cX3_last.data.toList.drop 117 = dktX3_last_5 := dk_seg dksX3_last_4 24 rfl rfl
theorem dksX3_last_6 : cX3_last.data.toList.drop 140 = dktX3_last_6 := dk_seg dksX3_last_5 23 rfl rfl
theorem dksX3_last_7 : cX3_last.data.toList.drop 164 = dktX3_last_7 := dk_seg dksX3_last_6 24 rfl rfl
theorem dX3_last_0 : decode cX3_last 0 = .ok (.aload_n 0, 1) := dk_42 (dk_at dksX3_last_0 0 rfl rfl)
theorem dX3_last_1 : decode cX3_last 1 = .ok (.iconst 0, 1) := dk_3 (dk_at dksX3_last_0 1 rfl rfl)
theorem dX3_last_2 : decode cX3_last 2 = .ok (.putfield 147, 3) := dk_181 0 147 (dk_at dksX3_last_0 2 rfl rfl)
theorem dX3_last_5 : decode cX3_last 5 = .ok (.aload_n 0, 1) := dk_42 (dk_at dksX3_last_0 5 rfl rfl)
theorem dX3_last_6 : decode cX3_last 6 = .ok (.iload_n 1, 1) := dk_27 (dk_at dksX3_last_0 6 rfl rfl)
theorem dX3_last_7 : decode cX3_last 7 = .ok (.invokevirtual 408, 3) := dk_182 1 152 (dk_at dksX3_last_0 7 rfl rfl)
theorem dX3_last_10 : decode cX3_last 10 = .ok (.ifCond .ne 5, 3) := dk_154 0 5 (dk_at dksX3_last_0 10 rfl rfl)
theorem dX3_last_13 : decode cX3_last 13 = .ok (.iconst 0, 1) := dk_3 (dk_at dksX3_last_0 13 rfl rfl)
theorem dX3_last_14 : decode cX3_last 14 = .ok (.ireturn, 1) := dk_172 (dk_at dksX3_last_0 14 rfl rfl)
theorem dX3_last_15 : decode cX3_last 15 = .ok (.aload_n 0, 1) := dk_42 (dk_at dksX3_last_0 15 rfl rfl)
theorem dX3_last_16 : decode cX3_last 16 = .ok (.invokevirtual 379, 3) := dk_182 1 123 (dk_at dksX3_last_0 16 rfl rfl)
theorem dX3_last_19 : decode cX3_last 19 = .ok (.aload_n 0, 1) := dk_42 (dk_at dksX3_last_0 19 rfl rfl)
theorem dX3_last_20 : decode cX3_last 20 = .ok (.iload_n 1, 1) := dk_27 (dk_at dksX3_last_0 20 rfl rfl)
theorem dX3_last_21 : decode cX3_last 21 = .ok (.invokevirtual 382, 3) := dk_182 1 126 (dk_at dksX3_last_0 21 rfl rfl)
theorem dX3_last_24 : decode cX3_last 24 = .ok (.istore_n 2, 1) := dk_61 (dk_at dksX3_last_1 0 rfl rfl)
theorem dX3_last_25 : decode cX3_last 25 = .ok (.iload_n 2, 1) := dk_28 (dk_at dksX3_last_1 1 rfl rfl)
theorem dX3_last_26 : decode cX3_last 26 = .ok (.ldc_w 348, 3) := dk_19 1 92 (dk_at dksX3_last_1 2 rfl rfl)
theorem dX3_last_29 : decode cX3_last 29 = .ok (.if_icmp .ge 11, 3) := dk_162 0 11 (dk_at dksX3_last_1 5 rfl rfl)
theorem dX3_last_32 : decode cX3_last 32 = .ok (.aload_n 0, 1) := dk_42 (dk_at dksX3_last_1 8 rfl rfl)
theorem dX3_last_33 : decode cX3_last 33 = .ok (.iload_n 1, 1) := dk_27 (dk_at dksX3_last_1 9 rfl rfl)
theorem dX3_last_34 : decode cX3_last 34 = .ok (.invokevirtual 423, 3) := dk_182 1 167 (dk_at dksX3_last_1 10 rfl rfl)
theorem dX3_last_37 : decode cX3_last 37 = .ok (.ifCond .eq 5, 3) := dk_153 0 5 (dk_at dksX3_last_1 13 rfl rfl)
theorem dX3_last_40 : decode cX3_last 40 = .ok (.iconst (-1), 1) := dk_2 (dk_at dksX3_last_1 16 rfl rfl)
theorem dX3_last_41 : decode cX3_last 41 = .ok (.ireturn, 1) := dk_172 (dk_at dksX3_last_1 17 rfl rfl)
theorem dX3_last_42 : decode cX3_last 42 = .ok (.iconst 0, 1) := dk_3 (dk_at dksX3_last_1 18 rfl rfl)
theorem dX3_last_43 : decode cX3_last 43 = .ok (.istore_n 3, 1) := dk_62 (dk_at dksX3_last_1 19 rfl rfl)
theorem dX3_last_44 : decode cX3_last 44 = .ok (.iload_n 3, 1) := dk_29 (dk_at dksX3_last_1 20 rfl rfl)
theorem dX3_last_45 : decode cX3_last 45 = .ok (.aload_n 0, 1) := dk_42 (dk_at dksX3_last_1 21 rfl rfl)
theorem dX3_last_46 : decode cX3_last 46 = .ok (.getfield 319, 3) := dk_180 1 63 (dk_at dksX3_last_2 0 rfl rfl)
theorem dX3_last_49 : decode cX3_last 49 = .ok (.if_icmp .ge 121, 3) := dk_162 0 121 (dk_at dksX3_last_2 3 rfl rfl)
theorem dX3_last_52 : decode cX3_last 52 = .ok (.iconst 0, 1) := dk_3 (dk_at dksX3_last_2 6 rfl rfl)
theorem dX3_last_53 : decode cX3_last 53 = .ok (.istore 4, 2) := dk_54 4 (dk_at dksX3_last_2 7 rfl rfl)
theorem dX3_last_55 : decode cX3_last 55 = .ok (.iconst 0, 1) := dk_3 (dk_at dksX3_last_2 9 rfl rfl)
theorem dX3_last_56 : decode cX3_last 56 = .ok (.istore 5, 2) := dk_54 5 (dk_at dksX3_last_2 10 rfl rfl)
theorem dX3_last_58 : decode cX3_last 58 = .ok (.iload 5, 2) := dk_21 5 (dk_at dksX3_last_2 12 rfl rfl)
theorem dX3_last_60 : decode cX3_last 60 = .ok (.aload_n 0, 1) := dk_42 (dk_at dksX3_last_2 14 rfl rfl)
theorem dX3_last_61 : decode cX3_last 61 = .ok (.getfield 20, 3) := dk_180 0 20 (dk_at dksX3_last_2 15 rfl rfl)
theorem dX3_last_64 : decode cX3_last 64 = .ok (.iload_n 3, 1) := dk_29 (dk_at dksX3_last_2 18 rfl rfl)
theorem dX3_last_65 : decode cX3_last 65 = .ok (.iaload, 1) := dk_46 (dk_at dksX3_last_2 19 rfl rfl)
theorem dX3_last_66 : decode cX3_last 66 = .ok (.if_icmp .ge 98, 3) := dk_162 0 98 (dk_at dksX3_last_2 20 rfl rfl)
theorem dX3_last_69 : decode cX3_last 69 = .ok (.aload_n 0, 1) := dk_42 (dk_at dksX3_last_2 23 rfl rfl)
theorem dX3_last_70 : decode cX3_last 70 = .ok (.iload_n 3, 1) := dk_29 (dk_at dksX3_last_3 0 rfl rfl)
theorem dX3_last_71 : decode cX3_last 71 = .ok (.invokevirtual 356, 3) := dk_182 1 100 (dk_at dksX3_last_3 1 rfl rfl)
theorem dX3_last_74 : decode cX3_last 74 = .ok (.ifCond .ne 90, 3) := dk_154 0 90 (dk_at dksX3_last_3 4 rfl rfl)
theorem dX3_last_77 : decode cX3_last 77 = .ok (.aload_n 0, 1) := dk_42 (dk_at dksX3_last_3 7 rfl rfl)
theorem dX3_last_78 : decode cX3_last 78 = .ok (.getfield 23, 3) := dk_180 0 23 (dk_at dksX3_last_3 8 rfl rfl)
theorem dX3_last_81 : decode cX3_last 81 = .ok (.bipush 8, 2) := dk_16 8 (dk_at dksX3_last_3 11 rfl rfl)
theorem dX3_last_83 : decode cX3_last 83 = .ok (.iload_n 3, 1) := dk_29 (dk_at dksX3_last_3 13 rfl rfl)
theorem dX3_last_84 : decode cX3_last 84 = .ok (.imul, 1) := dk_104 (dk_at dksX3_last_3 14 rfl rfl)
theorem dX3_last_85 : decode cX3_last 85 = .ok (.iload 5, 2) := dk_21 5 (dk_at dksX3_last_3 15 rfl rfl)
theorem dX3_last_87 : decode cX3_last 87 = .ok (.iadd, 1) := dk_96 (dk_at dksX3_last_3 17 rfl rfl)
theorem dX3_last_88 : decode cX3_last 88 = .ok (.iaload, 1) := dk_46 (dk_at dksX3_last_3 18 rfl rfl)
theorem dX3_last_89 : decode cX3_last 89 = .ok (.istore 6, 2) := dk_54 6 (dk_at dksX3_last_3 19 rfl rfl)
theorem dX3_last_91 : decode cX3_last 91 = .ok (.iload 4, 2) := dk_21 4 (dk_at dksX3_last_3 21 rfl rfl)
theorem dX3_last_93 : decode cX3_last 93 = .ok (.ifCond .eq 31, 3) := dk_153 0 31 (dk_at dksX3_last_4 0 rfl rfl)
theorem dX3_last_96 : decode cX3_last 96 = .ok (.iload 6, 2) := dk_21 6 (dk_at dksX3_last_4 3 rfl rfl)
theorem dX3_last_98 : decode cX3_last 98 = .ok (.aload_n 0, 1) := dk_42 (dk_at dksX3_last_4 5 rfl rfl)
theorem dX3_last_99 : decode cX3_last 99 = .ok (.iload_n 1, 1) := dk_27 (dk_at dksX3_last_4 6 rfl rfl)
theorem dX3_last_100 : decode cX3_last 100 = .ok (.invokevirtual 376, 3) := dk_182 1 120 (dk_at dksX3_last_4 7 rfl rfl)
theorem dX3_last_103 : decode cX3_last 103 = .ok (.if_icmp .ne 21, 3) := dk_160 0 21 (dk_at dksX3_last_4 10 rfl rfl)
theorem dX3_last_106 : decode cX3_last 106 = .ok (.aload_n 0, 1) := dk_42 (dk_at dksX3_last_4 13 rfl rfl)
theorem dX3_last_107 : decode cX3_last 107 = .ok (.getfield 96, 3) := dk_180 0 96 (dk_at dksX3_last_4 14 rfl rfl)
theorem dX3_last_110 : decode cX3_last 110 = .ok (.bipush 8, 2) := dk_16 8 (dk_at dksX3_last_4 17 rfl rfl)
theorem dX3_last_112 : decode cX3_last 112 = .ok (.iload_n 3, 1) := dk_29 (dk_at dksX3_last_4 19 rfl rfl)
theorem dX3_last_113 : decode cX3_last 113 = .ok (.imul, 1) := dk_104 (dk_at dksX3_last_4 20 rfl rfl)
theorem dX3_last_114 : decode cX3_last 114 = .ok (.iload 5, 2) := dk_21 5 (dk_at dksX3_last_4 21 rfl rfl)
theorem dX3_last_116 : decode cX3_last 116 = .ok (.iadd, 1) := dk_96 (dk_at dksX3_last_4 23 rfl rfl)
theorem dX3_last_117 : decode cX3_last 117 = .ok (.iaload, 1) := dk_46 (dk_at dksX3_last_5 0 rfl rfl)
theorem dX3_last_118 : decode cX3_last 118 = .ok (.iload_n 2, 1) := dk_28 (dk_at dksX3_last_5 1 rfl rfl)
theorem dX3_last_119 : decode cX3_last 119 = .ok (.if_icmp .ne 5, 3) := dk_160 0 5 (dk_at dksX3_last_5 2 rfl rfl)
theorem dX3_last_122 : decode cX3_last 122 = .ok (.iload_n 3, 1) := dk_29 (dk_at dksX3_last_5 5 rfl rfl)
theorem dX3_last_123 : decode cX3_last 123 = .ok (.ireturn, 1) := dk_172 (dk_at dksX3_last_5 6 rfl rfl)
theorem dX3_last_124 : decode cX3_last 124 = .ok (.iload 4, 2) := dk_21 4 (dk_at dksX3_last_5 7 rfl rfl)
theorem dX3_last_126 : decode cX3_last 126 = .ok (.ifCond .ne 25, 3) := dk_154 0 25 (dk_at dksX3_last_5 9 rfl rfl)
theorem dX3_last_129 : decode cX3_last 129 = .ok (.aload_n 0, 1) := dk_42 (dk_at dksX3_last_5 12 rfl rfl)
theorem dX3_last_130 : decode cX3_last 130 = .ok (.getfield 114, 3) := dk_180 0 114 (dk_at dksX3_last_5 13 rfl rfl)
theorem dX3_last_133 : decode cX3_last 133 = .ok (.iload 6, 2) := dk_21 6 (dk_at dksX3_last_5 16 rfl rfl)
theorem dX3_last_135 : decode cX3_last 135 = .ok (.iaload, 1) := dk_46 (dk_at dksX3_last_5 18 rfl rfl)
theorem dX3_last_136 : decode cX3_last 136 = .ok (.aload_n 0, 1) := dk_42 (dk_at dksX3_last_5 19 rfl rfl)
theorem dX3_last_137 : decode cX3_last 137 = .ok (.getfield 99, 3) := dk_180 0 99 (dk_at dksX3_last_5 20 rfl rfl)
theorem dX3_last_140 : decode cX3_last 140 = .ok (.bipush 8, 2) := dk_16 8 (dk_at dksX3_last_6 0 rfl rfl)
theorem dX3_last_142 : decode cX3_last 142 = .ok (.iload_n 3, 1) := dk_29 (dk_at dksX3_last_6 2 rfl rfl)
theorem dX3_last_143 : decode cX3_last 143 = .ok (.imul, 1) := dk_104 (dk_at dksX3_last_6 3 rfl rfl)
theorem dX3_last_144 : decode cX3_last 144 = .ok (.iload 5, 2) := dk_21 5 (dk_at dksX3_last_6 4 rfl rfl)
theorem dX3_last_146 : decode cX3_last 146 = .ok (.iadd, 1) := dk_96 (dk_at dksX3_last_6 6 rfl rfl)
theorem dX3_last_147 : decode cX3_last 147 = .ok (.iaload, 1) := dk_46 (dk_at dksX3_last_6 7 rfl rfl)
theorem dX3_last_148 : decode cX3_last 148 = .ok (.if_icmp .gt 7, 3) := dk_163 0 7 (dk_at dksX3_last_6 8 rfl rfl)
theorem dX3_last_151 : decode cX3_last 151 = .ok (.iconst 1, 1) := dk_4 (dk_at dksX3_last_6 11 rfl rfl)
theorem dX3_last_152 : decode cX3_last 152 = .ok (.goto 4, 3) := dk_167 0 4 (dk_at dksX3_last_6 12 rfl rfl)
theorem dX3_last_155 : decode cX3_last 155 = .ok (.iconst 0, 1) := dk_3 (dk_at dksX3_last_6 15 rfl rfl)
theorem dX3_last_156 : decode cX3_last 156 = .ok (.istore 4, 2) := dk_54 4 (dk_at dksX3_last_6 16 rfl rfl)
theorem dX3_last_158 : decode cX3_last 158 = .ok (.iinc 5 1, 3) := dk_132 5 1 (dk_at dksX3_last_6 18 rfl rfl)
theorem dX3_last_161 : decode cX3_last 161 = .ok (.goto (-103), 3) := dk_167 255 153 (dk_at dksX3_last_6 21 rfl rfl)
theorem dX3_last_164 : decode cX3_last 164 = .ok (.iinc 3 1, 3) := dk_132 3 1 (dk_at dksX3_last_7 0 rfl rfl)
theorem dX3_last_167 : decode cX3_last 167 = .ok (.goto (-123), 3) := dk_167 255 133 (dk_at dksX3_last_7 3 rfl rfl)
theorem dX3_last_170 : decode cX3_last 170 = .ok (.iconst (-1), 1) := dk_2 (dk_at dksX3_last_7 6 rfl rfl)
theorem dX3_last_171 : decode cX3_last 171 = .ok (.ireturn, 1) := dk_172 (dk_at dksX3_last_7 7 rfl rfl)
abbrev cX3_isThere : ByteArray := prog_14_method_57_code
def yX3_isThere : MethodName := ⟨RX3, "isThere", "(I)Z"⟩
def dkwX3_isThere_0 : List UInt8 := [42, 180, 0, 26, 7, 27, 104, 46, 42, 27, 182, 1, 120, 160, 0, 7, 4, 167, 0, 4, 3, 172]
abbrev dktX3_isThere_0 : List UInt8 := dkwX3_isThere_0 ++ []
theorem dksX3_isThere_0 : cX3_isThere.data.toList.drop 0 = dktX3_isThere_0 := by decide +kernel
theorem dX3_isThere_0 : decode cX3_isThere 0 = .ok (.aload_n 0, 1) := dk_42 (dk_at dksX3_isThere_0 0 rfl rfl)
theorem dX3_isThere_1 : decode cX3_isThere 1 = .ok (.getfield 26, 3) := dk_180 0 26 (dk_at dksX3_isThere_0 1 rfl rfl)
theorem dX3_isThere_4 : decode cX3_isThere 4 = .ok (.iconst 4, 1) := dk_7 (dk_at dksX3_isThere_0 4 rfl rfl)
theorem dX3_isThere_5 : decode cX3_isThere 5 = .ok (.iload_n 1, 1) := dk_27 (dk_at dksX3_isThere_0 5 rfl rfl)
theorem dX3_isThere_6 : decode cX3_isThere 6 = .ok (.imul, 1) := dk_104 (dk_at dksX3_isThere_0 6 rfl rfl)
theorem dX3_isThere_7 : decode cX3_isThere 7 = .ok (.iaload, 1) := dk_46 (dk_at dksX3_isThere_0 7 rfl rfl)
theorem dX3_isThere_8 : decode cX3_isThere 8 = .ok (.aload_n 0, 1) := dk_42 (dk_at dksX3_isThere_0 8 rfl rfl)
theorem dX3_isThere_9 : decode cX3_isThere 9 = .ok (.iload_n 1, 1) := dk_27 (dk_at dksX3_isThere_0 9 rfl rfl)
theorem dX3_isThere_10 : decode cX3_isThere 10 = .ok (.invokevirtual 376, 3) := dk_182 1 120 (dk_at dksX3_isThere_0 10 rfl rfl)
theorem dX3_isThere_13 : decode cX3_isThere 13 = .ok (.if_icmp .ne 7, 3) := dk_160 0 7 (dk_at dksX3_isThere_0 13 rfl rfl)
theorem dX3_isThere_16 : decode cX3_isThere 16 = .ok (.iconst 1, 1) := dk_4 (dk_at dksX3_isThere_0 16 rfl rfl)
theorem dX3_isThere_17 : decode cX3_isThere 17 = .ok (.goto 4, 3) := dk_167 0 4 (dk_at dksX3_isThere_0 17 rfl rfl)
theorem dX3_isThere_20 : decode cX3_isThere 20 = .ok (.iconst 0, 1) := dk_3 (dk_at dksX3_isThere_0 20 rfl rfl)
theorem dX3_isThere_21 : decode cX3_isThere 21 = .ok (.ireturn, 1) := dk_172 (dk_at dksX3_isThere_0 21 rfl rfl)
abbrev cX3_never : ByteArray := prog_14_method_83_code
def yX3_never : MethodName := ⟨RX3, "never", "()I"⟩
def dkwX3_never_2 : List UInt8 := [27, 172]
abbrev dktX3_never_2 : List UInt8 := dkwX3_never_2 ++ []
def dkwX3_never_1 : List UInt8 := [182, 1, 126, 19, 1, 92, 161, 0, 9, 4, 28, 120, 167, 0, 4, 3, 128, 60, 132, 2, 1, 167, 255, 224]
abbrev dktX3_never_1 : List UInt8 := dkwX3_never_1 ++ dktX3_never_2
def dkwX3_never_0 : List UInt8 := [42, 3, 181, 0, 147, 42, 182, 1, 123, 3, 60, 3, 61, 28, 42, 180, 1, 66, 162, 0, 30, 27, 42, 28]
abbrev dktX3_never_0 : List UInt8 := dkwX3_never_0 ++ dktX3_never_1
theorem dksX3_never_0 : cX3_never.data.toList.drop 0 = dktX3_never_0 := by decide +kernel
theorem dksX3_never_1 : cX3_never.data.toList.drop 24 = dktX3_never_1 := dk_seg dksX3_never_0 24 rfl rfl
theorem dksX3_never_2 : cX3_never.data.toList.drop 48 = dktX3_never_2 := dk_seg dksX3_never_1 24 rfl rfl
theorem dX3_never_0 : decode cX3_never 0 = .ok (.aload_n 0, 1) := dk_42 (dk_at dksX3_never_0 0 rfl rfl)
theorem dX3_never_1 : decode cX3_never 1 = .ok (.iconst 0, 1) := dk_3 (dk_at dksX3_never_0 1 rfl rfl)
theorem dX3_never_2 : decode cX3_never 2 = .ok (.putfield 147, 3) := dk_181 0 147 (dk_at dksX3_never_0 2 rfl rfl)
theorem dX3_never_5 : decode cX3_never 5 = .ok (.aload_n 0, 1) := dk_42 (dk_at dksX3_never_0 5 rfl rfl)
theorem dX3_never_6 : decode cX3_never 6 = .ok (.invokevirtual 379, 3) := dk_182 1 123 (dk_at dksX3_never_0 6 rfl rfl)
theorem dX3_never_9 : decode cX3_never 9 = .ok (.iconst 0, 1) := dk_3 (dk_at dksX3_never_0 9 rfl rfl)
theorem dX3_never_10 : decode cX3_never 10 = .ok (.istore_n 1, 1) := dk_60 (dk_at dksX3_never_0 10 rfl rfl)
theorem dX3_never_11 : decode cX3_never 11 = .ok (.iconst 0, 1) := dk_3 (dk_at dksX3_never_0 11 rfl rfl)
theorem dX3_never_12 : decode cX3_never 12 = .ok (.istore_n 2, 1) := dk_61 (dk_at dksX3_never_0 12 rfl rfl)
theorem dX3_never_13 : decode cX3_never 13 = .ok (.iload_n 2, 1) := dk_28 (dk_at dksX3_never_0 13 rfl rfl)
theorem dX3_never_14 : decode cX3_never 14 = .ok (.aload_n 0, 1) := dk_42 (dk_at dksX3_never_0 14 rfl rfl)
theorem dX3_never_15 : decode cX3_never 15 = .ok (.getfield 322, 3) := dk_180 1 66 (dk_at dksX3_never_0 15 rfl rfl)
theorem dX3_never_18 : decode cX3_never 18 = .ok (.if_icmp .ge 30, 3) := dk_162 0 30 (dk_at dksX3_never_0 18 rfl rfl)
theorem dX3_never_21 : decode cX3_never 21 = .ok (.iload_n 1, 1) := dk_27 (dk_at dksX3_never_0 21 rfl rfl)
theorem dX3_never_22 : decode cX3_never 22 = .ok (.aload_n 0, 1) := dk_42 (dk_at dksX3_never_0 22 rfl rfl)
theorem dX3_never_23 : decode cX3_never 23 = .ok (.iload_n 2, 1) := dk_28 (dk_at dksX3_never_0 23 rfl rfl)
theorem dX3_never_24 : decode cX3_never 24 = .ok (.invokevirtual 382, 3) := dk_182 1 126 (dk_at dksX3_never_1 0 rfl rfl)
theorem dX3_never_27 : decode cX3_never 27 = .ok (.ldc_w 348, 3) := dk_19 1 92 (dk_at dksX3_never_1 3 rfl rfl)
theorem dX3_never_30 : decode cX3_never 30 = .ok (.if_icmp .lt 9, 3) := dk_161 0 9 (dk_at dksX3_never_1 6 rfl rfl)
theorem dX3_never_33 : decode cX3_never 33 = .ok (.iconst 1, 1) := dk_4 (dk_at dksX3_never_1 9 rfl rfl)
theorem dX3_never_34 : decode cX3_never 34 = .ok (.iload_n 2, 1) := dk_28 (dk_at dksX3_never_1 10 rfl rfl)
theorem dX3_never_35 : decode cX3_never 35 = .ok (.ishl, 1) := dk_120 (dk_at dksX3_never_1 11 rfl rfl)
theorem dX3_never_36 : decode cX3_never 36 = .ok (.goto 4, 3) := dk_167 0 4 (dk_at dksX3_never_1 12 rfl rfl)
theorem dX3_never_39 : decode cX3_never 39 = .ok (.iconst 0, 1) := dk_3 (dk_at dksX3_never_1 15 rfl rfl)
theorem dX3_never_40 : decode cX3_never 40 = .ok (.ior, 1) := dk_128 (dk_at dksX3_never_1 16 rfl rfl)
theorem dX3_never_41 : decode cX3_never 41 = .ok (.istore_n 1, 1) := dk_60 (dk_at dksX3_never_1 17 rfl rfl)
theorem dX3_never_42 : decode cX3_never 42 = .ok (.iinc 2 1, 3) := dk_132 2 1 (dk_at dksX3_never_1 18 rfl rfl)
theorem dX3_never_45 : decode cX3_never 45 = .ok (.goto (-32), 3) := dk_167 255 224 (dk_at dksX3_never_1 21 rfl rfl)
theorem dX3_never_48 : decode cX3_never 48 = .ok (.iload_n 1, 1) := dk_27 (dk_at dksX3_never_2 0 rfl rfl)
theorem dX3_never_49 : decode cX3_never 49 = .ok (.ireturn, 1) := dk_172 (dk_at dksX3_never_2 1 rfl rfl)
abbrev cX3_lure : ByteArray := prog_14_method_85_code
def yX3_lure : MethodName := ⟨RX3, "lure", "(II)I"⟩
def dkwX3_lure_14 : List UInt8 := [167, 254, 251, 2, 172]
abbrev dktX3_lure_14 : List UInt8 := dkwX3_lure_14 ++ []
def dkwX3_lure_13 : List UInt8 := [180, 0, 123, 182, 1, 72, 42, 4, 181, 1, 85, 21, 5, 172, 132, 6, 1, 167, 255, 21, 132, 5, 1]
abbrev dktX3_lure_13 : List UInt8 := dkwX3_lure_13 ++ dktX3_lure_14
def dkwX3_lure_12 : List UInt8 := [100, 79, 132, 10, 1, 167, 255, 225, 21, 9, 154, 0, 6, 167, 0, 23, 42, 42, 180, 0, 126, 42]
abbrev dktX3_lure_12 : List UInt8 := dkwX3_lure_12 ++ dktX3_lure_13
def dkwX3_lure_11 : List UInt8 := [42, 180, 1, 57, 162, 0, 28, 42, 180, 0, 78, 7, 21, 10, 96, 92, 46, 42, 180, 0, 126, 21, 10, 46]
abbrev dktX3_lure_11 : List UInt8 := dkwX3_lure_11 ++ dktX3_lure_12
def dkwX3_lure_10 : List UInt8 := [21, 9, 46, 96, 79, 132, 9, 1, 167, 255, 225, 42, 27, 29, 182, 1, 170, 54, 9, 3, 54, 10, 21, 10]
abbrev dktX3_lure_10 : List UInt8 := dkwX3_lure_10 ++ dktX3_lure_11
def dkwX3_lure_9 : List UInt8 := [21, 9, 42, 180, 1, 57, 162, 0, 28, 42, 180, 0, 78, 7, 21, 9, 96, 92, 46, 42, 180, 0, 126]
abbrev dktX3_lure_9 : List UInt8 := dkwX3_lure_9 ++ dktX3_lure_10
def dkwX3_lure_8 : List UInt8 := [132, 9, 1, 167, 255, 168, 21, 8, 153, 0, 123, 21, 7, 21, 5, 159, 0, 6, 167, 0, 113, 3, 54, 9]
abbrev dktX3_lure_8 : List UInt8 := dkwX3_lure_8 ++ dktX3_lure_9
def dkwX3_lure_7 : List UInt8 := [21, 9, 96, 46, 42, 180, 0, 126, 21, 9, 46, 96, 16, 9, 163, 0, 7, 4, 167, 0, 4, 3, 54, 8]
abbrev dktX3_lure_7 : List UInt8 := dkwX3_lure_7 ++ dktX3_lure_8
def dkwX3_lure_6 : List UInt8 := [126, 79, 21, 7, 42, 180, 0, 126, 21, 9, 46, 96, 54, 7, 21, 8, 153, 0, 29, 42, 180, 0, 78, 7]
abbrev dktX3_lure_6 : List UInt8 := dkwX3_lure_6 ++ dktX3_lure_7
def dkwX3_lure_5 : List UInt8 := [163, 0, 78, 42, 180, 0, 126, 21, 9, 21, 6, 5, 42, 180, 1, 57, 4, 100, 21, 9, 100, 104, 122, 6]
abbrev dktX3_lure_5 : List UInt8 := dkwX3_lure_5 ++ dktX3_lure_6
def dkwX3_lure_4 : List UInt8 := [3, 54, 7, 4, 54, 8, 3, 54, 9, 21, 9, 42, 180, 1, 57, 162, 0, 85, 21, 7, 21, 5]
abbrev dktX3_lure_4 : List UInt8 := dkwX3_lure_4 ++ dktX3_lure_5
def dkwX3_lure_3 : List UInt8 := [163, 1, 5, 21, 5, 6, 42, 180, 1, 57, 104, 163, 0, 250, 3, 54, 6, 21, 6, 21, 4, 162, 0, 234]
abbrev dktX3_lure_3 : List UInt8 := dkwX3_lure_3 ++ dktX3_lure_4
def dkwX3_lure_2 : List UInt8 := [167, 0, 7, 42, 180, 0, 7, 62, 4, 5, 42, 180, 1, 57, 104, 120, 54, 4, 3, 54, 5, 21, 5, 6]
abbrev dktX3_lure_2 : List UInt8 := dkwX3_lure_2 ++ dktX3_lure_3
def dkwX3_lure_1 : List UInt8 := [4, 167, 0, 4, 3, 4, 182, 1, 50, 154, 0, 5, 3, 172, 28, 42, 180, 0, 7, 162, 0, 7, 28]
abbrev dktX3_lure_1 : List UInt8 := dkwX3_lure_1 ++ dktX3_lure_2
def dkwX3_lure_0 : List UInt8 := [42, 3, 181, 0, 147, 42, 27, 155, 0, 21, 27, 4, 42, 180, 1, 66, 120, 162, 0, 11, 28, 155, 0, 7]
abbrev dktX3_lure_0 : List UInt8 := dkwX3_lure_0 ++ dktX3_lure_1
theorem dksX3_lure_0 : cX3_lure.data.toList.drop 0 = dktX3_lure_0 := by decide +kernel
theorem dksX3_lure_1 : cX3_lure.data.toList.drop 24 = dktX3_lure_1 := dk_seg dksX3_lure_0 24 rfl rfl
theorem dksX3_lure_2 : cX3_lure.data.toList.drop 47 = dktX3_lure_2 := dk_seg dksX3_lure_1 23 rfl rfl
theorem dksX3_lure_3 : cX3_lure.data.toList.drop 71 = dktX3_lure_3 := dk_seg dksX3_lure_2 24 rfl rfl
theorem dksX3_lure_4 : cX3_lure.data.toList.drop 95 = dktX3_lure_4 := dk_seg dksX3_lure_3 24 rfl rfl
theorem dksX3_lure_5 : cX3_lure.data.toList.drop 117 = dktX3_lure_5 := dk_seg dksX3_lure_4 22 rfl rfl
theorem dksX3_lure_6 : cX3_lure.data.toList.drop 141 = dktX3_lure_6 := dk_seg dksX3_lure_5 24 rfl rfl
theorem dksX3_lure_7 : cX3_lure.data.toList.drop 165 = dktX3_lure_7 := dk_seg dksX3_lure_6 24 rfl rfl
theorem dksX3_lure_8 : cX3_lure.data.toList.drop 189 = dktX3_lure_8 := dk_seg dksX3_lure_7 24 rfl rfl
theorem dksX3_lure_9 : cX3_lure.data.toList.drop 213 = dktX3_lure_9 := dk_seg dksX3_lure_8 24 rfl rfl
theorem dksX3_lure_10 : cX3_lure.data.toList.drop 236 = dktX3_lure_10 := dk_seg dksX3_lure_9 23 rfl rfl
theorem dksX3_lure_11 : cX3_lure.data.toList.drop 260 = dktX3_lure_11 := dk_seg dksX3_lure_10 24 rfl rfl
theorem dksX3_lure_12 : cX3_lure.data.toList.drop 284 = dktX3_lure_12 := dk_seg dksX3_lure_11 24 rfl rfl
theorem dksX3_lure_13 : cX3_lure.data.toList.drop 306 = dktX3_lure_13 := dk_seg dksX3_lure_12 22 rfl rfl
theorem dksX3_lure_14 : cX3_lure.data.toList.drop 329 = dktX3_lure_14 := dk_seg dksX3_lure_13 23 rfl rfl
theorem dX3_lure_0 : decode cX3_lure 0 = .ok (.aload_n 0, 1) := dk_42 (dk_at dksX3_lure_0 0 rfl rfl)
theorem dX3_lure_1 : decode cX3_lure 1 = .ok (.iconst 0, 1) := dk_3 (dk_at dksX3_lure_0 1 rfl rfl)
theorem dX3_lure_2 : decode cX3_lure 2 = .ok (.putfield 147, 3) := dk_181 0 147 (dk_at dksX3_lure_0 2 rfl rfl)
theorem dX3_lure_5 : decode cX3_lure 5 = .ok (.aload_n 0, 1) := dk_42 (dk_at dksX3_lure_0 5 rfl rfl)
theorem dX3_lure_6 : decode cX3_lure 6 = .ok (.iload_n 1, 1) := dk_27 (dk_at dksX3_lure_0 6 rfl rfl)
theorem dX3_lure_7 : decode cX3_lure 7 = .ok (.ifCond .lt 21, 3) := dk_155 0 21 (dk_at dksX3_lure_0 7 rfl rfl)
theorem dX3_lure_10 : decode cX3_lure 10 = .ok (.iload_n 1, 1) := dk_27 (dk_at dksX3_lure_0 10 rfl rfl)
theorem dX3_lure_11 : decode cX3_lure 11 = .ok (.iconst 1, 1) := dk_4 (dk_at dksX3_lure_0 11 rfl rfl)
theorem dX3_lure_12 : decode cX3_lure 12 = .ok (.aload_n 0, 1) := dk_42 (dk_at dksX3_lure_0 12 rfl rfl)
theorem dX3_lure_13 : decode cX3_lure 13 = .ok (.getfield 322, 3) := dk_180 1 66 (dk_at dksX3_lure_0 13 rfl rfl)
theorem dX3_lure_16 : decode cX3_lure 16 = .ok (.ishl, 1) := dk_120 (dk_at dksX3_lure_0 16 rfl rfl)
theorem dX3_lure_17 : decode cX3_lure 17 = .ok (.if_icmp .ge 11, 3) := dk_162 0 11 (dk_at dksX3_lure_0 17 rfl rfl)
theorem dX3_lure_20 : decode cX3_lure 20 = .ok (.iload_n 2, 1) := dk_28 (dk_at dksX3_lure_0 20 rfl rfl)
theorem dX3_lure_21 : decode cX3_lure 21 = .ok (.ifCond .lt 7, 3) := dk_155 0 7 (dk_at dksX3_lure_0 21 rfl rfl)
theorem dX3_lure_24 : decode cX3_lure 24 = .ok (.iconst 1, 1) := dk_4 (dk_at dksX3_lure_1 0 rfl rfl)
theorem dX3_lure_25 : decode cX3_lure 25 = .ok (.goto 4, 3) := dk_167 0 4 (dk_at dksX3_lure_1 1 rfl rfl)
theorem dX3_lure_28 : decode cX3_lure 28 = .ok (.iconst 0, 1) := dk_3 (dk_at dksX3_lure_1 4 rfl rfl)
theorem dX3_lure_29 : decode cX3_lure 29 = .ok (.iconst 1, 1) := dk_4 (dk_at dksX3_lure_1 5 rfl rfl)
theorem dX3_lure_30 : decode cX3_lure 30 = .ok (.invokevirtual 306, 3) := dk_182 1 50 (dk_at dksX3_lure_1 6 rfl rfl)
theorem dX3_lure_33 : decode cX3_lure 33 = .ok (.ifCond .ne 5, 3) := dk_154 0 5 (dk_at dksX3_lure_1 9 rfl rfl)
theorem dX3_lure_36 : decode cX3_lure 36 = .ok (.iconst 0, 1) := dk_3 (dk_at dksX3_lure_1 12 rfl rfl)
theorem dX3_lure_37 : decode cX3_lure 37 = .ok (.ireturn, 1) := dk_172 (dk_at dksX3_lure_1 13 rfl rfl)
theorem dX3_lure_38 : decode cX3_lure 38 = .ok (.iload_n 2, 1) := dk_28 (dk_at dksX3_lure_1 14 rfl rfl)
theorem dX3_lure_39 : decode cX3_lure 39 = .ok (.aload_n 0, 1) := dk_42 (dk_at dksX3_lure_1 15 rfl rfl)
theorem dX3_lure_40 : decode cX3_lure 40 = .ok (.getfield 7, 3) := dk_180 0 7 (dk_at dksX3_lure_1 16 rfl rfl)
theorem dX3_lure_43 : decode cX3_lure 43 = .ok (.if_icmp .ge 7, 3) := dk_162 0 7 (dk_at dksX3_lure_1 19 rfl rfl)
theorem dX3_lure_46 : decode cX3_lure 46 = .ok (.iload_n 2, 1) := dk_28 (dk_at dksX3_lure_1 22 rfl rfl)
theorem dX3_lure_47 : decode cX3_lure 47 = .ok (.goto 7, 3) := dk_167 0 7 (dk_at dksX3_lure_2 0 rfl rfl)
theorem dX3_lure_50 : decode cX3_lure 50 = .ok (.aload_n 0, 1) := dk_42 (dk_at dksX3_lure_2 3 rfl rfl)
theorem dX3_lure_51 : decode cX3_lure 51 = .ok (.getfield 7, 3) := dk_180 0 7 (dk_at dksX3_lure_2 4 rfl rfl)
theorem dX3_lure_54 : decode cX3_lure 54 = .ok (.istore_n 3, 1) := dk_62 (dk_at dksX3_lure_2 7 rfl rfl)
theorem dX3_lure_55 : decode cX3_lure 55 = .ok (.iconst 1, 1) := dk_4 (dk_at dksX3_lure_2 8 rfl rfl)
theorem dX3_lure_56 : decode cX3_lure 56 = .ok (.iconst 2, 1) := dk_5 (dk_at dksX3_lure_2 9 rfl rfl)
theorem dX3_lure_57 : decode cX3_lure 57 = .ok (.aload_n 0, 1) := dk_42 (dk_at dksX3_lure_2 10 rfl rfl)
theorem dX3_lure_58 : decode cX3_lure 58 = .ok (.getfield 313, 3) := dk_180 1 57 (dk_at dksX3_lure_2 11 rfl rfl)
theorem dX3_lure_61 : decode cX3_lure 61 = .ok (.imul, 1) := dk_104 (dk_at dksX3_lure_2 14 rfl rfl)
theorem dX3_lure_62 : decode cX3_lure 62 = .ok (.ishl, 1) := dk_120 (dk_at dksX3_lure_2 15 rfl rfl)
theorem dX3_lure_63 : decode cX3_lure 63 = .ok (.istore 4, 2) := dk_54 4 (dk_at dksX3_lure_2 16 rfl rfl)
theorem dX3_lure_65 : decode cX3_lure 65 = .ok (.iconst 0, 1) := dk_3 (dk_at dksX3_lure_2 18 rfl rfl)
theorem dX3_lure_66 : decode cX3_lure 66 = .ok (.istore 5, 2) := dk_54 5 (dk_at dksX3_lure_2 19 rfl rfl)
theorem dX3_lure_68 : decode cX3_lure 68 = .ok (.iload 5, 2) := dk_21 5 (dk_at dksX3_lure_2 21 rfl rfl)
theorem dX3_lure_70 : decode cX3_lure 70 = .ok (.iconst 3, 1) := dk_6 (dk_at dksX3_lure_2 23 rfl rfl)
theorem dX3_lure_71 : decode cX3_lure 71 = .ok (.if_icmp .gt 261, 3) := dk_163 1 5 (dk_at dksX3_lure_3 0 rfl rfl)
theorem dX3_lure_74 : decode cX3_lure 74 = .ok (.iload 5, 2) := dk_21 5 (dk_at dksX3_lure_3 3 rfl rfl)
theorem dX3_lure_76 : decode cX3_lure 76 = .ok (.iconst 3, 1) := dk_6 (dk_at dksX3_lure_3 5 rfl rfl)
theorem dX3_lure_77 : decode cX3_lure 77 = .ok (.aload_n 0, 1) := dk_42 (dk_at dksX3_lure_3 6 rfl rfl)
theorem dX3_lure_78 : decode cX3_lure 78 = .ok (.getfield 313, 3) := dk_180 1 57 (dk_at dksX3_lure_3 7 rfl rfl)
theorem dX3_lure_81 : decode cX3_lure 81 = .ok (.imul, 1) := dk_104 (dk_at dksX3_lure_3 10 rfl rfl)
theorem dX3_lure_82 : decode cX3_lure 82 = .ok (.if_icmp .gt 250, 3) := dk_163 0 250 (dk_at dksX3_lure_3 11 rfl rfl)
theorem dX3_lure_85 : decode cX3_lure 85 = .ok (.iconst 0, 1) := dk_3 (dk_at dksX3_lure_3 14 rfl rfl)
theorem dX3_lure_86 : decode cX3_lure 86 = .ok (.istore 6, 2) := dk_54 6 (dk_at dksX3_lure_3 15 rfl rfl)
theorem dX3_lure_88 : decode cX3_lure 88 = .ok (.iload 6, 2) := dk_21 6 (dk_at dksX3_lure_3 17 rfl rfl)
theorem dX3_lure_90 : decode cX3_lure 90 = .ok (.iload 4, 2) := dk_21 4 (dk_at dksX3_lure_3 19 rfl rfl)
theorem dX3_lure_92 : decode cX3_lure 92 = .ok (.if_icmp .ge 234, 3) := dk_162 0 234 (dk_at dksX3_lure_3 21 rfl rfl)
theorem dX3_lure_95 : decode cX3_lure 95 = .ok (.iconst 0, 1) := dk_3 (dk_at dksX3_lure_4 0 rfl rfl)
theorem dX3_lure_96 : decode cX3_lure 96 = .ok (.istore 7, 2) := dk_54 7 (dk_at dksX3_lure_4 1 rfl rfl)
theorem dX3_lure_98 : decode cX3_lure 98 = .ok (.iconst 1, 1) := dk_4 (dk_at dksX3_lure_4 3 rfl rfl)
theorem dX3_lure_99 : decode cX3_lure 99 = .ok (.istore 8, 2) := dk_54 8 (dk_at dksX3_lure_4 4 rfl rfl)
theorem dX3_lure_101 : decode cX3_lure 101 = .ok (.iconst 0, 1) := dk_3 (dk_at dksX3_lure_4 6 rfl rfl)
theorem dX3_lure_102 : decode cX3_lure 102 = .ok (.istore 9, 2) := dk_54 9 (dk_at dksX3_lure_4 7 rfl rfl)
theorem dX3_lure_104 : decode cX3_lure 104 = .ok (.iload 9, 2) := dk_21 9 (dk_at dksX3_lure_4 9 rfl rfl)
theorem dX3_lure_106 : decode cX3_lure 106 = .ok (.aload_n 0, 1) := dk_42 (dk_at dksX3_lure_4 11 rfl rfl)
theorem dX3_lure_107 : decode cX3_lure 107 = .ok (.getfield 313, 3) := dk_180 1 57 (dk_at dksX3_lure_4 12 rfl rfl)
theorem dX3_lure_110 : decode cX3_lure 110 = .ok (.if_icmp .ge 85, 3) := dk_162 0 85 (dk_at dksX3_lure_4 15 rfl rfl)
theorem dX3_lure_113 : decode cX3_lure 113 = .ok (.iload 7, 2) := dk_21 7 (dk_at dksX3_lure_4 18 rfl rfl)
theorem dX3_lure_115 : decode cX3_lure 115 = .ok (.iload 5, 2) := dk_21 5 (dk_at dksX3_lure_4 20 rfl rfl)
theorem dX3_lure_117 : decode cX3_lure 117 = .ok (.if_icmp .gt 78, 3) := dk_163 0 78 (dk_at dksX3_lure_5 0 rfl rfl)
theorem dX3_lure_120 : decode cX3_lure 120 = .ok (.aload_n 0, 1) := dk_42 (dk_at dksX3_lure_5 3 rfl rfl)
theorem dX3_lure_121 : decode cX3_lure 121 = .ok (.getfield 126, 3) := dk_180 0 126 (dk_at dksX3_lure_5 4 rfl rfl)
theorem dX3_lure_124 : decode cX3_lure 124 = .ok (.iload 9, 2) := dk_21 9 (dk_at dksX3_lure_5 7 rfl rfl)
theorem dX3_lure_126 : decode cX3_lure 126 = .ok (.iload 6, 2) := dk_21 6 (dk_at dksX3_lure_5 9 rfl rfl)
theorem dX3_lure_128 : decode cX3_lure 128 = .ok (.iconst 2, 1) := dk_5 (dk_at dksX3_lure_5 11 rfl rfl)
theorem dX3_lure_129 : decode cX3_lure 129 = .ok (.aload_n 0, 1) := dk_42 (dk_at dksX3_lure_5 12 rfl rfl)
theorem dX3_lure_130 : decode cX3_lure 130 = .ok (.getfield 313, 3) := dk_180 1 57 (dk_at dksX3_lure_5 13 rfl rfl)
theorem dX3_lure_133 : decode cX3_lure 133 = .ok (.iconst 1, 1) := dk_4 (dk_at dksX3_lure_5 16 rfl rfl)
theorem dX3_lure_134 : decode cX3_lure 134 = .ok (.isub, 1) := dk_100 (dk_at dksX3_lure_5 17 rfl rfl)
theorem dX3_lure_135 : decode cX3_lure 135 = .ok (.iload 9, 2) := dk_21 9 (dk_at dksX3_lure_5 18 rfl rfl)
theorem dX3_lure_137 : decode cX3_lure 137 = .ok (.isub, 1) := dk_100 (dk_at dksX3_lure_5 20 rfl rfl)
theorem dX3_lure_138 : decode cX3_lure 138 = .ok (.imul, 1) := dk_104 (dk_at dksX3_lure_5 21 rfl rfl)
theorem dX3_lure_139 : decode cX3_lure 139 = .ok (.ishr, 1) := dk_122 (dk_at dksX3_lure_5 22 rfl rfl)
theorem dX3_lure_140 : decode cX3_lure 140 = .ok (.iconst 3, 1) := dk_6 (dk_at dksX3_lure_5 23 rfl rfl)
theorem dX3_lure_141 : decode cX3_lure 141 = .ok (.iand, 1) := dk_126 (dk_at dksX3_lure_6 0 rfl rfl)
theorem dX3_lure_142 : decode cX3_lure 142 = .ok (.iastore, 1) := dk_79 (dk_at dksX3_lure_6 1 rfl rfl)
theorem dX3_lure_143 : decode cX3_lure 143 = .ok (.iload 7, 2) := dk_21 7 (dk_at dksX3_lure_6 2 rfl rfl)
theorem dX3_lure_145 : decode cX3_lure 145 = .ok (.aload_n 0, 1) := dk_42 (dk_at dksX3_lure_6 4 rfl rfl)
theorem dX3_lure_146 : decode cX3_lure 146 = .ok (.getfield 126, 3) := dk_180 0 126 (dk_at dksX3_lure_6 5 rfl rfl)
theorem dX3_lure_149 : decode cX3_lure 149 = .ok (.iload 9, 2) := dk_21 9 (dk_at dksX3_lure_6 8 rfl rfl)
theorem dX3_lure_151 : decode cX3_lure 151 = .ok (.iaload, 1) := dk_46 (dk_at dksX3_lure_6 10 rfl rfl)
theorem dX3_lure_152 : decode cX3_lure 152 = .ok (.iadd, 1) := dk_96 (dk_at dksX3_lure_6 11 rfl rfl)
theorem dX3_lure_153 : decode cX3_lure 153 = .ok (.istore 7, 2) := dk_54 7 (dk_at dksX3_lure_6 12 rfl rfl)
theorem dX3_lure_155 : decode cX3_lure 155 = .ok (.iload 8, 2) := dk_21 8 (dk_at dksX3_lure_6 14 rfl rfl)
theorem dX3_lure_157 : decode cX3_lure 157 = .ok (.ifCond .eq 29, 3) := dk_153 0 29 (dk_at dksX3_lure_6 16 rfl rfl)
theorem dX3_lure_160 : decode cX3_lure 160 = .ok (.aload_n 0, 1) := dk_42 (dk_at dksX3_lure_6 19 rfl rfl)
theorem dX3_lure_161 : decode cX3_lure 161 = .ok (.getfield 78, 3) := dk_180 0 78 (dk_at dksX3_lure_6 20 rfl rfl)
theorem dX3_lure_164 : decode cX3_lure 164 = .ok (.iconst 4, 1) := dk_7 (dk_at dksX3_lure_6 23 rfl rfl)
theorem dX3_lure_165 : decode cX3_lure 165 = .ok (.iload 9, 2) := dk_21 9 (dk_at dksX3_lure_7 0 rfl rfl)
theorem dX3_lure_167 : decode cX3_lure 167 = .ok (.iadd, 1) := dk_96 (dk_at dksX3_lure_7 2 rfl rfl)
theorem dX3_lure_168 : decode cX3_lure 168 = .ok (.iaload, 1) := dk_46 (dk_at dksX3_lure_7 3 rfl rfl)
theorem dX3_lure_169 : decode cX3_lure 169 = .ok (.aload_n 0, 1) := dk_42 (dk_at dksX3_lure_7 4 rfl rfl)
theorem dX3_lure_170 : decode cX3_lure 170 = .ok (.getfield 126, 3) := dk_180 0 126 (dk_at dksX3_lure_7 5 rfl rfl)
theorem dX3_lure_173 : decode cX3_lure 173 = .ok (.iload 9, 2) := dk_21 9 (dk_at dksX3_lure_7 8 rfl rfl)
theorem dX3_lure_175 : decode cX3_lure 175 = .ok (.iaload, 1) := dk_46 (dk_at dksX3_lure_7 10 rfl rfl)
theorem dX3_lure_176 : decode cX3_lure 176 = .ok (.iadd, 1) := dk_96 (dk_at dksX3_lure_7 11 rfl rfl)
theorem dX3_lure_177 : decode cX3_lure 177 = .ok (.bipush 9, 2) := dk_16 9 (dk_at dksX3_lure_7 12 rfl rfl)
theorem dX3_lure_179 : decode cX3_lure 179 = .ok (.if_icmp .gt 7, 3) := dk_163 0 7 (dk_at dksX3_lure_7 14 rfl rfl)
theorem dX3_lure_182 : decode cX3_lure 182 = .ok (.iconst 1, 1) := dk_4 (dk_at dksX3_lure_7 17 rfl rfl)
theorem dX3_lure_183 : decode cX3_lure 183 = .ok (.goto 4, 3) := dk_167 0 4 (dk_at dksX3_lure_7 18 rfl rfl)
theorem dX3_lure_186 : decode cX3_lure 186 = .ok (.iconst 0, 1) := dk_3 (dk_at dksX3_lure_7 21 rfl rfl)
theorem dX3_lure_187 : decode cX3_lure 187 = .ok (.istore 8, 2) := dk_54 8 (dk_at dksX3_lure_7 22 rfl rfl)
theorem dX3_lure_189 : decode cX3_lure 189 = .ok (.iinc 9 1, 3) := dk_132 9 1 (dk_at dksX3_lure_8 0 rfl rfl)
theorem dX3_lure_192 : decode cX3_lure 192 = .ok (.goto (-88), 3) := dk_167 255 168 (dk_at dksX3_lure_8 3 rfl rfl)
theorem dX3_lure_195 : decode cX3_lure 195 = .ok (.iload 8, 2) := dk_21 8 (dk_at dksX3_lure_8 6 rfl rfl)
theorem dX3_lure_197 : decode cX3_lure 197 = .ok (.ifCond .eq 123, 3) := dk_153 0 123 (dk_at dksX3_lure_8 8 rfl rfl)
theorem dX3_lure_200 : decode cX3_lure 200 = .ok (.iload 7, 2) := dk_21 7 (dk_at dksX3_lure_8 11 rfl rfl)
theorem dX3_lure_202 : decode cX3_lure 202 = .ok (.iload 5, 2) := dk_21 5 (dk_at dksX3_lure_8 13 rfl rfl)
theorem dX3_lure_204 : decode cX3_lure 204 = .ok (.if_icmp .eq 6, 3) := dk_159 0 6 (dk_at dksX3_lure_8 15 rfl rfl)
theorem dX3_lure_207 : decode cX3_lure 207 = .ok (.goto 113, 3) := dk_167 0 113 (dk_at dksX3_lure_8 18 rfl rfl)
theorem dX3_lure_210 : decode cX3_lure 210 = .ok (.iconst 0, 1) := dk_3 (dk_at dksX3_lure_8 21 rfl rfl)
theorem dX3_lure_211 : decode cX3_lure 211 = .ok (.istore 9, 2) := dk_54 9 (dk_at dksX3_lure_8 22 rfl rfl)
theorem dX3_lure_213 : decode cX3_lure 213 = .ok (.iload 9, 2) := dk_21 9 (dk_at dksX3_lure_9 0 rfl rfl)
theorem dX3_lure_215 : decode cX3_lure 215 = .ok (.aload_n 0, 1) := dk_42 (dk_at dksX3_lure_9 2 rfl rfl)
theorem dX3_lure_216 : decode cX3_lure 216 = .ok (.getfield 313, 3) := dk_180 1 57 (dk_at dksX3_lure_9 3 rfl rfl)
theorem dX3_lure_219 : decode cX3_lure 219 = .ok (.if_icmp .ge 28, 3) := dk_162 0 28 (dk_at dksX3_lure_9 6 rfl rfl)
theorem dX3_lure_222 : decode cX3_lure 222 = .ok (.aload_n 0, 1) := dk_42 (dk_at dksX3_lure_9 9 rfl rfl)
theorem dX3_lure_223 : decode cX3_lure 223 = .ok (.getfield 78, 3) := dk_180 0 78 (dk_at dksX3_lure_9 10 rfl rfl)
theorem dX3_lure_226 : decode cX3_lure 226 = .ok (.iconst 4, 1) := dk_7 (dk_at dksX3_lure_9 13 rfl rfl)
theorem dX3_lure_227 : decode cX3_lure 227 = .ok (.iload 9, 2) := dk_21 9 (dk_at dksX3_lure_9 14 rfl rfl)
theorem dX3_lure_229 : decode cX3_lure 229 = .ok (.iadd, 1) := dk_96 (dk_at dksX3_lure_9 16 rfl rfl)
theorem dX3_lure_230 : decode cX3_lure 230 = .ok (.dup2, 1) := dk_92 (dk_at dksX3_lure_9 17 rfl rfl)
theorem dX3_lure_231 : decode cX3_lure 231 = .ok (.iaload, 1) := dk_46 (dk_at dksX3_lure_9 18 rfl rfl)
theorem dX3_lure_232 : decode cX3_lure 232 = .ok (.aload_n 0, 1) := dk_42 (dk_at dksX3_lure_9 19 rfl rfl)
theorem dX3_lure_233 : decode cX3_lure 233 = .ok (.getfield 126, 3) := dk_180 0 126 (dk_at dksX3_lure_9 20 rfl rfl)
theorem dX3_lure_236 : decode cX3_lure 236 = .ok (.iload 9, 2) := dk_21 9 (dk_at dksX3_lure_10 0 rfl rfl)
theorem dX3_lure_238 : decode cX3_lure 238 = .ok (.iaload, 1) := dk_46 (dk_at dksX3_lure_10 2 rfl rfl)
theorem dX3_lure_239 : decode cX3_lure 239 = .ok (.iadd, 1) := dk_96 (dk_at dksX3_lure_10 3 rfl rfl)
theorem dX3_lure_240 : decode cX3_lure 240 = .ok (.iastore, 1) := dk_79 (dk_at dksX3_lure_10 4 rfl rfl)
theorem dX3_lure_241 : decode cX3_lure 241 = .ok (.iinc 9 1, 3) := dk_132 9 1 (dk_at dksX3_lure_10 5 rfl rfl)
theorem dX3_lure_244 : decode cX3_lure 244 = .ok (.goto (-31), 3) := dk_167 255 225 (dk_at dksX3_lure_10 8 rfl rfl)
theorem dX3_lure_247 : decode cX3_lure 247 = .ok (.aload_n 0, 1) := dk_42 (dk_at dksX3_lure_10 11 rfl rfl)
theorem dX3_lure_248 : decode cX3_lure 248 = .ok (.iload_n 1, 1) := dk_27 (dk_at dksX3_lure_10 12 rfl rfl)
theorem dX3_lure_249 : decode cX3_lure 249 = .ok (.iload_n 3, 1) := dk_29 (dk_at dksX3_lure_10 13 rfl rfl)
theorem dX3_lure_250 : decode cX3_lure 250 = .ok (.invokevirtual 426, 3) := dk_182 1 170 (dk_at dksX3_lure_10 14 rfl rfl)
theorem dX3_lure_253 : decode cX3_lure 253 = .ok (.istore 9, 2) := dk_54 9 (dk_at dksX3_lure_10 17 rfl rfl)
theorem dX3_lure_255 : decode cX3_lure 255 = .ok (.iconst 0, 1) := dk_3 (dk_at dksX3_lure_10 19 rfl rfl)
theorem dX3_lure_256 : decode cX3_lure 256 = .ok (.istore 10, 2) := dk_54 10 (dk_at dksX3_lure_10 20 rfl rfl)
theorem dX3_lure_258 : decode cX3_lure 258 = .ok (.iload 10, 2) := dk_21 10 (dk_at dksX3_lure_10 22 rfl rfl)
theorem dX3_lure_260 : decode cX3_lure 260 = .ok (.aload_n 0, 1) := dk_42 (dk_at dksX3_lure_11 0 rfl rfl)
theorem dX3_lure_261 : decode cX3_lure 261 = .ok (.getfield 313, 3) := dk_180 1 57 (dk_at dksX3_lure_11 1 rfl rfl)
theorem dX3_lure_264 : decode cX3_lure 264 = .ok (.if_icmp .ge 28, 3) := dk_162 0 28 (dk_at dksX3_lure_11 4 rfl rfl)
theorem dX3_lure_267 : decode cX3_lure 267 = .ok (.aload_n 0, 1) := dk_42 (dk_at dksX3_lure_11 7 rfl rfl)
theorem dX3_lure_268 : decode cX3_lure 268 = .ok (.getfield 78, 3) := dk_180 0 78 (dk_at dksX3_lure_11 8 rfl rfl)
theorem dX3_lure_271 : decode cX3_lure 271 = .ok (.iconst 4, 1) := dk_7 (dk_at dksX3_lure_11 11 rfl rfl)
theorem dX3_lure_272 : decode cX3_lure 272 = .ok (.iload 10, 2) := dk_21 10 (dk_at dksX3_lure_11 12 rfl rfl)
theorem dX3_lure_274 : decode cX3_lure 274 = .ok (.iadd, 1) := dk_96 (dk_at dksX3_lure_11 14 rfl rfl)
theorem dX3_lure_275 : decode cX3_lure 275 = .ok (.dup2, 1) := dk_92 (dk_at dksX3_lure_11 15 rfl rfl)
theorem dX3_lure_276 : decode cX3_lure 276 = .ok (.iaload, 1) := dk_46 (dk_at dksX3_lure_11 16 rfl rfl)
theorem dX3_lure_277 : decode cX3_lure 277 = .ok (.aload_n 0, 1) := dk_42 (dk_at dksX3_lure_11 17 rfl rfl)
theorem dX3_lure_278 : decode cX3_lure 278 = .ok (.getfield 126, 3) := dk_180 0 126 (dk_at dksX3_lure_11 18 rfl rfl)
theorem dX3_lure_281 : decode cX3_lure 281 = .ok (.iload 10, 2) := dk_21 10 (dk_at dksX3_lure_11 21 rfl rfl)
theorem dX3_lure_283 : decode cX3_lure 283 = .ok (.iaload, 1) := dk_46 (dk_at dksX3_lure_11 23 rfl rfl)
theorem dX3_lure_284 : decode cX3_lure 284 = .ok (.isub, 1) := dk_100 (dk_at dksX3_lure_12 0 rfl rfl)
theorem dX3_lure_285 : decode cX3_lure 285 = .ok (.iastore, 1) := dk_79 (dk_at dksX3_lure_12 1 rfl rfl)
theorem dX3_lure_286 : decode cX3_lure 286 = .ok (.iinc 10 1, 3) := dk_132 10 1 (dk_at dksX3_lure_12 2 rfl rfl)
theorem dX3_lure_289 : decode cX3_lure 289 = .ok (.goto (-31), 3) := dk_167 255 225 (dk_at dksX3_lure_12 5 rfl rfl)
theorem dX3_lure_292 : decode cX3_lure 292 = .ok (.iload 9, 2) := dk_21 9 (dk_at dksX3_lure_12 8 rfl rfl)
theorem dX3_lure_294 : decode cX3_lure 294 = .ok (.ifCond .ne 6, 3) := dk_154 0 6 (dk_at dksX3_lure_12 10 rfl rfl)
theorem dX3_lure_297 : decode cX3_lure 297 = .ok (.goto 23, 3) := dk_167 0 23 (dk_at dksX3_lure_12 13 rfl rfl)
theorem dX3_lure_300 : decode cX3_lure 300 = .ok (.aload_n 0, 1) := dk_42 (dk_at dksX3_lure_12 16 rfl rfl)
theorem dX3_lure_301 : decode cX3_lure 301 = .ok (.aload_n 0, 1) := dk_42 (dk_at dksX3_lure_12 17 rfl rfl)
theorem dX3_lure_302 : decode cX3_lure 302 = .ok (.getfield 126, 3) := dk_180 0 126 (dk_at dksX3_lure_12 18 rfl rfl)
theorem dX3_lure_305 : decode cX3_lure 305 = .ok (.aload_n 0, 1) := dk_42 (dk_at dksX3_lure_12 21 rfl rfl)
theorem dX3_lure_306 : decode cX3_lure 306 = .ok (.getfield 123, 3) := dk_180 0 123 (dk_at dksX3_lure_13 0 rfl rfl)
theorem dX3_lure_309 : decode cX3_lure 309 = .ok (.invokevirtual 328, 3) := dk_182 1 72 (dk_at dksX3_lure_13 3 rfl rfl)
theorem dX3_lure_312 : decode cX3_lure 312 = .ok (.aload_n 0, 1) := dk_42 (dk_at dksX3_lure_13 6 rfl rfl)
theorem dX3_lure_313 : decode cX3_lure 313 = .ok (.iconst 1, 1) := dk_4 (dk_at dksX3_lure_13 7 rfl rfl)
theorem dX3_lure_314 : decode cX3_lure 314 = .ok (.putfield 341, 3) := dk_181 1 85 (dk_at dksX3_lure_13 8 rfl rfl)
theorem dX3_lure_317 : decode cX3_lure 317 = .ok (.iload 5, 2) := dk_21 5 (dk_at dksX3_lure_13 11 rfl rfl)
theorem dX3_lure_319 : decode cX3_lure 319 = .ok (.ireturn, 1) := dk_172 (dk_at dksX3_lure_13 13 rfl rfl)
theorem dX3_lure_320 : decode cX3_lure 320 = .ok (.iinc 6 1, 3) := dk_132 6 1 (dk_at dksX3_lure_13 14 rfl rfl)
theorem dX3_lure_323 : decode cX3_lure 323 = .ok (.goto (-235), 3) := dk_167 255 21 (dk_at dksX3_lure_13 17 rfl rfl)
theorem dX3_lure_326 : decode cX3_lure 326 = .ok (.iinc 5 1, 3) := dk_132 5 1 (dk_at dksX3_lure_13 20 rfl rfl)
theorem dX3_lure_329 : decode cX3_lure 329 = .ok (.goto (-261), 3) := dk_167 254 251 (dk_at dksX3_lure_14 0 rfl rfl)
theorem dX3_lure_332 : decode cX3_lure 332 = .ok (.iconst (-1), 1) := dk_2 (dk_at dksX3_lure_14 3 rfl rfl)
theorem dX3_lure_333 : decode cX3_lure 333 = .ok (.ireturn, 1) := dk_172 (dk_at dksX3_lure_14 4 rfl rfl)
abbrev cX3_areHome : ByteArray := prog_14_method_84_code
def yX3_areHome : MethodName := ⟨RX3, "areHome", "(II)Z"⟩
def dkwX3_areHome_1 : List UInt8 := [29, 182, 1, 126, 28, 164, 0, 5, 3, 172, 132, 3, 1, 167, 255, 225, 4, 172]
abbrev dktX3_areHome_1 : List UInt8 := dkwX3_areHome_1 ++ []
def dkwX3_areHome_0 : List UInt8 := [42, 182, 1, 123, 3, 62, 29, 42, 180, 1, 66, 162, 0, 29, 27, 29, 122, 4, 126, 4, 160, 0, 14, 42]
abbrev dktX3_areHome_0 : List UInt8 := dkwX3_areHome_0 ++ dktX3_areHome_1
theorem dksX3_areHome_0 : cX3_areHome.data.toList.drop 0 = dktX3_areHome_0 := by decide +kernel
theorem dksX3_areHome_1 : cX3_areHome.data.toList.drop 24 = dktX3_areHome_1 := dk_seg dksX3_areHome_0 24 rfl rfl
theorem dX3_areHome_0 : decode cX3_areHome 0 = .ok (.aload_n 0, 1) := dk_42 (dk_at dksX3_areHome_0 0 rfl rfl)
theorem dX3_areHome_1 : decode cX3_areHome 1 = .ok (.invokevirtual 379, 3) := dk_182 1 123 (dk_at dksX3_areHome_0 1 rfl rfl)
theorem dX3_areHome_4 : decode cX3_areHome 4 = .ok (.iconst 0, 1) := dk_3 (dk_at dksX3_areHome_0 4 rfl rfl)
theorem dX3_areHome_5 : decode cX3_areHome 5 = .ok (.istore_n 3, 1) := dk_62 (dk_at dksX3_areHome_0 5 rfl rfl)
theorem dX3_areHome_6 : decode cX3_areHome 6 = .ok (.iload_n 3, 1) := dk_29 (dk_at dksX3_areHome_0 6 rfl rfl)
theorem dX3_areHome_7 : decode cX3_areHome 7 = .ok (.aload_n 0, 1) := dk_42 (dk_at dksX3_areHome_0 7 rfl rfl)
theorem dX3_areHome_8 : decode cX3_areHome 8 = .ok (.getfield 322, 3) := dk_180 1 66 (dk_at dksX3_areHome_0 8 rfl rfl)
theorem dX3_areHome_11 : decode cX3_areHome 11 = .ok (.if_icmp .ge 29, 3) := dk_162 0 29 (dk_at dksX3_areHome_0 11 rfl rfl)
theorem dX3_areHome_14 : decode cX3_areHome 14 = .ok (.iload_n 1, 1) := dk_27 (dk_at dksX3_areHome_0 14 rfl rfl)
theorem dX3_areHome_15 : decode cX3_areHome 15 = .ok (.iload_n 3, 1) := dk_29 (dk_at dksX3_areHome_0 15 rfl rfl)
theorem dX3_areHome_16 : decode cX3_areHome 16 = .ok (.ishr, 1) := dk_122 (dk_at dksX3_areHome_0 16 rfl rfl)
theorem dX3_areHome_17 : decode cX3_areHome 17 = .ok (.iconst 1, 1) := dk_4 (dk_at dksX3_areHome_0 17 rfl rfl)
theorem dX3_areHome_18 : decode cX3_areHome 18 = .ok (.iand, 1) := dk_126 (dk_at dksX3_areHome_0 18 rfl rfl)
theorem dX3_areHome_19 : decode cX3_areHome 19 = .ok (.iconst 1, 1) := dk_4 (dk_at dksX3_areHome_0 19 rfl rfl)
theorem dX3_areHome_20 : decode cX3_areHome 20 = .ok (.if_icmp .ne 14, 3) := dk_160 0 14 (dk_at dksX3_areHome_0 20 rfl rfl)
theorem dX3_areHome_23 : decode cX3_areHome 23 = .ok (.aload_n 0, 1) := dk_42 (dk_at dksX3_areHome_0 23 rfl rfl)
theorem dX3_areHome_24 : decode cX3_areHome 24 = .ok (.iload_n 3, 1) := dk_29 (dk_at dksX3_areHome_1 0 rfl rfl)
theorem dX3_areHome_25 : decode cX3_areHome 25 = .ok (.invokevirtual 382, 3) := dk_182 1 126 (dk_at dksX3_areHome_1 1 rfl rfl)
theorem dX3_areHome_28 : decode cX3_areHome 28 = .ok (.iload_n 2, 1) := dk_28 (dk_at dksX3_areHome_1 4 rfl rfl)
theorem dX3_areHome_29 : decode cX3_areHome 29 = .ok (.if_icmp .le 5, 3) := dk_164 0 5 (dk_at dksX3_areHome_1 5 rfl rfl)
theorem dX3_areHome_32 : decode cX3_areHome 32 = .ok (.iconst 0, 1) := dk_3 (dk_at dksX3_areHome_1 8 rfl rfl)
theorem dX3_areHome_33 : decode cX3_areHome 33 = .ok (.ireturn, 1) := dk_172 (dk_at dksX3_areHome_1 9 rfl rfl)
theorem dX3_areHome_34 : decode cX3_areHome 34 = .ok (.iinc 3 1, 3) := dk_132 3 1 (dk_at dksX3_areHome_1 10 rfl rfl)
theorem dX3_areHome_37 : decode cX3_areHome 37 = .ok (.goto (-31), 3) := dk_167 255 225 (dk_at dksX3_areHome_1 13 rfl rfl)
theorem dX3_areHome_40 : decode cX3_areHome 40 = .ok (.iconst 1, 1) := dk_4 (dk_at dksX3_areHome_1 16 rfl rfl)
theorem dX3_areHome_41 : decode cX3_areHome 41 = .ok (.ireturn, 1) := dk_172 (dk_at dksX3_areHome_1 17 rfl rfl)
abbrev cX3_more : ByteArray := prog_14_method_86_code
def yX3_more : MethodName := ⟨RX3, "more", "(I)I"⟩
def dkwX3_more_1 : List UInt8 := [153, 0, 12, 42, 180, 0, 123, 27, 46, 167, 0, 4, 3, 172]
abbrev dktX3_more_1 : List UInt8 := dkwX3_more_1 ++ []
def dkwX3_more_0 : List UInt8 := [42, 3, 181, 0, 147, 42, 27, 182, 1, 136, 153, 0, 24, 42, 42, 180, 1, 85, 4, 182, 1, 50]
abbrev dktX3_more_0 : List UInt8 := dkwX3_more_0 ++ dktX3_more_1
theorem dksX3_more_0 : cX3_more.data.toList.drop 0 = dktX3_more_0 := by decide +kernel
theorem dksX3_more_1 : cX3_more.data.toList.drop 22 = dktX3_more_1 := dk_seg dksX3_more_0 22 rfl rfl
theorem dX3_more_0 : decode cX3_more 0 = .ok (.aload_n 0, 1) := dk_42 (dk_at dksX3_more_0 0 rfl rfl)
theorem dX3_more_1 : decode cX3_more 1 = .ok (.iconst 0, 1) := dk_3 (dk_at dksX3_more_0 1 rfl rfl)
theorem dX3_more_2 : decode cX3_more 2 = .ok (.putfield 147, 3) := dk_181 0 147 (dk_at dksX3_more_0 2 rfl rfl)
theorem dX3_more_5 : decode cX3_more 5 = .ok (.aload_n 0, 1) := dk_42 (dk_at dksX3_more_0 5 rfl rfl)
theorem dX3_more_6 : decode cX3_more 6 = .ok (.iload_n 1, 1) := dk_27 (dk_at dksX3_more_0 6 rfl rfl)
theorem dX3_more_7 : decode cX3_more 7 = .ok (.invokevirtual 392, 3) := dk_182 1 136 (dk_at dksX3_more_0 7 rfl rfl)
theorem dX3_more_10 : decode cX3_more 10 = .ok (.ifCond .eq 24, 3) := dk_153 0 24 (dk_at dksX3_more_0 10 rfl rfl)
theorem dX3_more_13 : decode cX3_more 13 = .ok (.aload_n 0, 1) := dk_42 (dk_at dksX3_more_0 13 rfl rfl)
theorem dX3_more_14 : decode cX3_more 14 = .ok (.aload_n 0, 1) := dk_42 (dk_at dksX3_more_0 14 rfl rfl)
theorem dX3_more_15 : decode cX3_more 15 = .ok (.getfield 341, 3) := dk_180 1 85 (dk_at dksX3_more_0 15 rfl rfl)
theorem dX3_more_18 : decode cX3_more 18 = .ok (.iconst 1, 1) := dk_4 (dk_at dksX3_more_0 18 rfl rfl)
theorem dX3_more_19 : decode cX3_more 19 = .ok (.invokevirtual 306, 3) := dk_182 1 50 (dk_at dksX3_more_0 19 rfl rfl)
theorem dX3_more_22 : decode cX3_more 22 = .ok (.ifCond .eq 12, 3) := dk_153 0 12 (dk_at dksX3_more_1 0 rfl rfl)
theorem dX3_more_25 : decode cX3_more 25 = .ok (.aload_n 0, 1) := dk_42 (dk_at dksX3_more_1 3 rfl rfl)
theorem dX3_more_26 : decode cX3_more 26 = .ok (.getfield 123, 3) := dk_180 0 123 (dk_at dksX3_more_1 4 rfl rfl)
theorem dX3_more_29 : decode cX3_more 29 = .ok (.iload_n 1, 1) := dk_27 (dk_at dksX3_more_1 7 rfl rfl)
theorem dX3_more_30 : decode cX3_more 30 = .ok (.iaload, 1) := dk_46 (dk_at dksX3_more_1 8 rfl rfl)
theorem dX3_more_31 : decode cX3_more 31 = .ok (.goto 4, 3) := dk_167 0 4 (dk_at dksX3_more_1 9 rfl rfl)
theorem dX3_more_34 : decode cX3_more 34 = .ok (.iconst 0, 1) := dk_3 (dk_at dksX3_more_1 12 rfl rfl)
theorem dX3_more_35 : decode cX3_more 35 = .ok (.ireturn, 1) := dk_172 (dk_at dksX3_more_1 13 rfl rfl)
abbrev cX3_beams : ByteArray := prog_14_method_87_code
def yX3_beams : MethodName := ⟨RX3, "beams", "(III)I"⟩
def dkwX3_beams_9 : List UInt8 := [154, 0, 8, 21, 5, 167, 0, 5, 21, 4, 172]
abbrev dktX3_beams_9 : List UInt8 := dkwX3_beams_9 ++ []
def dkwX3_beams_8 : List UInt8 := [21, 5, 163, 0, 6, 167, 0, 11, 21, 6, 54, 4, 21, 7, 54, 5, 132, 6, 1, 167, 255, 111, 29]
abbrev dktX3_beams_8 : List UInt8 := dkwX3_beams_8 ++ dktX3_beams_9
def dkwX3_beams_7 : List UInt8 := [21, 7, 21, 9, 153, 0, 7, 4, 167, 0, 4, 3, 96, 54, 7, 132, 8, 1, 167, 255, 164, 21, 7]
abbrev dktX3_beams_7 : List UInt8 := dkwX3_beams_7 ++ dktX3_beams_8
def dkwX3_beams_6 : List UInt8 := [21, 8, 182, 1, 120, 96, 46, 28, 163, 0, 7, 4, 167, 0, 4, 3, 54, 9, 132, 10, 1, 167, 255, 200]
abbrev dktX3_beams_6 : List UInt8 := dkwX3_beams_6 ++ dktX3_beams_7
def dkwX3_beams_5 : List UInt8 := [154, 0, 35, 21, 6, 21, 10, 122, 4, 126, 4, 160, 0, 28, 42, 180, 0, 87, 16, 10, 21, 10, 104, 42]
abbrev dktX3_beams_5 : List UInt8 := dkwX3_beams_5 ++ dktX3_beams_6
def dkwX3_beams_4 : List UInt8 := [180, 1, 66, 162, 0, 89, 3, 54, 9, 3, 54, 10, 21, 10, 42, 180, 1, 57, 162, 0, 53, 21, 9]
abbrev dktX3_beams_4 : List UInt8 := dkwX3_beams_4 ++ dktX3_beams_5
def dkwX3_beams_3 : List UInt8 := [162, 0, 140, 21, 6, 184, 1, 173, 27, 159, 0, 6, 167, 0, 122, 3, 54, 7, 3, 54, 8, 21, 8, 42]
abbrev dktX3_beams_3 : List UInt8 := dkwX3_beams_3 ++ dktX3_beams_4
def dkwX3_beams_2 : List UInt8 := [154, 0, 5, 3, 172, 2, 54, 4, 2, 54, 5, 3, 54, 6, 21, 6, 4, 42, 180, 1, 57, 120]
abbrev dktX3_beams_2 : List UInt8 := dkwX3_beams_2 ++ dktX3_beams_3
def dkwX3_beams_1 : List UInt8 := [153, 0, 18, 28, 3, 17, 0, 200, 184, 1, 129, 153, 0, 7, 4, 167, 0, 4, 3, 5, 182, 1, 50]
abbrev dktX3_beams_1 : List UInt8 := dkwX3_beams_1 ++ dktX3_beams_2
def dkwX3_beams_0 : List UInt8 := [42, 3, 181, 0, 147, 42, 29, 4, 182, 1, 139, 153, 0, 37, 42, 27, 3, 16, 10, 184, 1, 129]
abbrev dktX3_beams_0 : List UInt8 := dkwX3_beams_0 ++ dktX3_beams_1
theorem dksX3_beams_0 : cX3_beams.data.toList.drop 0 = dktX3_beams_0 := by decide +kernel
theorem dksX3_beams_1 : cX3_beams.data.toList.drop 22 = dktX3_beams_1 := dk_seg dksX3_beams_0 22 rfl rfl
theorem dksX3_beams_2 : cX3_beams.data.toList.drop 45 = dktX3_beams_2 := dk_seg dksX3_beams_1 23 rfl rfl
theorem dksX3_beams_3 : cX3_beams.data.toList.drop 67 = dktX3_beams_3 := dk_seg dksX3_beams_2 22 rfl rfl
theorem dksX3_beams_4 : cX3_beams.data.toList.drop 91 = dktX3_beams_4 := dk_seg dksX3_beams_3 24 rfl rfl
theorem dksX3_beams_5 : cX3_beams.data.toList.drop 114 = dktX3_beams_5 := dk_seg dksX3_beams_4 23 rfl rfl
theorem dksX3_beams_6 : cX3_beams.data.toList.drop 138 = dktX3_beams_6 := dk_seg dksX3_beams_5 24 rfl rfl
theorem dksX3_beams_7 : cX3_beams.data.toList.drop 162 = dktX3_beams_7 := dk_seg dksX3_beams_6 24 rfl rfl
theorem dksX3_beams_8 : cX3_beams.data.toList.drop 185 = dktX3_beams_8 := dk_seg dksX3_beams_7 23 rfl rfl
theorem dksX3_beams_9 : cX3_beams.data.toList.drop 208 = dktX3_beams_9 := dk_seg dksX3_beams_8 23 rfl rfl
theorem dX3_beams_0 : decode cX3_beams 0 = .ok (.aload_n 0, 1) := dk_42 (dk_at dksX3_beams_0 0 rfl rfl)
theorem dX3_beams_1 : decode cX3_beams 1 = .ok (.iconst 0, 1) := dk_3 (dk_at dksX3_beams_0 1 rfl rfl)
theorem dX3_beams_2 : decode cX3_beams 2 = .ok (.putfield 147, 3) := dk_181 0 147 (dk_at dksX3_beams_0 2 rfl rfl)
theorem dX3_beams_5 : decode cX3_beams 5 = .ok (.aload_n 0, 1) := dk_42 (dk_at dksX3_beams_0 5 rfl rfl)
theorem dX3_beams_6 : decode cX3_beams 6 = .ok (.iload_n 3, 1) := dk_29 (dk_at dksX3_beams_0 6 rfl rfl)
theorem dX3_beams_7 : decode cX3_beams 7 = .ok (.iconst 1, 1) := dk_4 (dk_at dksX3_beams_0 7 rfl rfl)
theorem dX3_beams_8 : decode cX3_beams 8 = .ok (.invokevirtual 395, 3) := dk_182 1 139 (dk_at dksX3_beams_0 8 rfl rfl)
theorem dX3_beams_11 : decode cX3_beams 11 = .ok (.ifCond .eq 37, 3) := dk_153 0 37 (dk_at dksX3_beams_0 11 rfl rfl)
theorem dX3_beams_14 : decode cX3_beams 14 = .ok (.aload_n 0, 1) := dk_42 (dk_at dksX3_beams_0 14 rfl rfl)
theorem dX3_beams_15 : decode cX3_beams 15 = .ok (.iload_n 1, 1) := dk_27 (dk_at dksX3_beams_0 15 rfl rfl)
theorem dX3_beams_16 : decode cX3_beams 16 = .ok (.iconst 0, 1) := dk_3 (dk_at dksX3_beams_0 16 rfl rfl)
theorem dX3_beams_17 : decode cX3_beams 17 = .ok (.bipush 10, 2) := dk_16 10 (dk_at dksX3_beams_0 17 rfl rfl)
theorem dX3_beams_19 : decode cX3_beams 19 = .ok (.invokestatic 385, 3) := dk_184 1 129 (dk_at dksX3_beams_0 19 rfl rfl)
theorem dX3_beams_22 : decode cX3_beams 22 = .ok (.ifCond .eq 18, 3) := dk_153 0 18 (dk_at dksX3_beams_1 0 rfl rfl)
theorem dX3_beams_25 : decode cX3_beams 25 = .ok (.iload_n 2, 1) := dk_28 (dk_at dksX3_beams_1 3 rfl rfl)
theorem dX3_beams_26 : decode cX3_beams 26 = .ok (.iconst 0, 1) := dk_3 (dk_at dksX3_beams_1 4 rfl rfl)
theorem dX3_beams_27 : decode cX3_beams 27 = .ok (.sipush 200, 3) := dk_17 0 200 (dk_at dksX3_beams_1 5 rfl rfl)
theorem dX3_beams_30 : decode cX3_beams 30 = .ok (.invokestatic 385, 3) := dk_184 1 129 (dk_at dksX3_beams_1 8 rfl rfl)
theorem dX3_beams_33 : decode cX3_beams 33 = .ok (.ifCond .eq 7, 3) := dk_153 0 7 (dk_at dksX3_beams_1 11 rfl rfl)
theorem dX3_beams_36 : decode cX3_beams 36 = .ok (.iconst 1, 1) := dk_4 (dk_at dksX3_beams_1 14 rfl rfl)
theorem dX3_beams_37 : decode cX3_beams 37 = .ok (.goto 4, 3) := dk_167 0 4 (dk_at dksX3_beams_1 15 rfl rfl)
theorem dX3_beams_40 : decode cX3_beams 40 = .ok (.iconst 0, 1) := dk_3 (dk_at dksX3_beams_1 18 rfl rfl)
theorem dX3_beams_41 : decode cX3_beams 41 = .ok (.iconst 2, 1) := dk_5 (dk_at dksX3_beams_1 19 rfl rfl)
theorem dX3_beams_42 : decode cX3_beams 42 = .ok (.invokevirtual 306, 3) := dk_182 1 50 (dk_at dksX3_beams_1 20 rfl rfl)
theorem dX3_beams_45 : decode cX3_beams 45 = .ok (.ifCond .ne 5, 3) := dk_154 0 5 (dk_at dksX3_beams_2 0 rfl rfl)
theorem dX3_beams_48 : decode cX3_beams 48 = .ok (.iconst 0, 1) := dk_3 (dk_at dksX3_beams_2 3 rfl rfl)
theorem dX3_beams_49 : decode cX3_beams 49 = .ok (.ireturn, 1) := dk_172 (dk_at dksX3_beams_2 4 rfl rfl)
theorem dX3_beams_50 : decode cX3_beams 50 = .ok (.iconst (-1), 1) := dk_2 (dk_at dksX3_beams_2 5 rfl rfl)
theorem dX3_beams_51 : decode cX3_beams 51 = .ok (.istore 4, 2) := dk_54 4 (dk_at dksX3_beams_2 6 rfl rfl)
theorem dX3_beams_53 : decode cX3_beams 53 = .ok (.iconst (-1), 1) := dk_2 (dk_at dksX3_beams_2 8 rfl rfl)
theorem dX3_beams_54 : decode cX3_beams 54 = .ok (.istore 5, 2) := dk_54 5 (dk_at dksX3_beams_2 9 rfl rfl)
theorem dX3_beams_56 : decode cX3_beams 56 = .ok (.iconst 0, 1) := dk_3 (dk_at dksX3_beams_2 11 rfl rfl)
theorem dX3_beams_57 : decode cX3_beams 57 = .ok (.istore 6, 2) := dk_54 6 (dk_at dksX3_beams_2 12 rfl rfl)
theorem dX3_beams_59 : decode cX3_beams 59 = .ok (.iload 6, 2) := dk_21 6 (dk_at dksX3_beams_2 14 rfl rfl)
theorem dX3_beams_61 : decode cX3_beams 61 = .ok (.iconst 1, 1) := dk_4 (dk_at dksX3_beams_2 16 rfl rfl)
theorem dX3_beams_62 : decode cX3_beams 62 = .ok (.aload_n 0, 1) := dk_42 (dk_at dksX3_beams_2 17 rfl rfl)
theorem dX3_beams_63 : decode cX3_beams 63 = .ok (.getfield 313, 3) := dk_180 1 57 (dk_at dksX3_beams_2 18 rfl rfl)
theorem dX3_beams_66 : decode cX3_beams 66 = .ok (.ishl, 1) := dk_120 (dk_at dksX3_beams_2 21 rfl rfl)
theorem dX3_beams_67 : decode cX3_beams 67 = .ok (.if_icmp .ge 140, 3) := dk_162 0 140 (dk_at dksX3_beams_3 0 rfl rfl)
theorem dX3_beams_70 : decode cX3_beams 70 = .ok (.iload 6, 2) := dk_21 6 (dk_at dksX3_beams_3 3 rfl rfl)
theorem dX3_beams_72 : decode cX3_beams 72 = .ok (.invokestatic 429, 3) := dk_184 1 173 (dk_at dksX3_beams_3 5 rfl rfl)
theorem dX3_beams_75 : decode cX3_beams 75 = .ok (.iload_n 1, 1) := dk_27 (dk_at dksX3_beams_3 8 rfl rfl)
theorem dX3_beams_76 : decode cX3_beams 76 = .ok (.if_icmp .eq 6, 3) := dk_159 0 6 (dk_at dksX3_beams_3 9 rfl rfl)
theorem dX3_beams_79 : decode cX3_beams 79 = .ok (.goto 122, 3) := dk_167 0 122 (dk_at dksX3_beams_3 12 rfl rfl)
theorem dX3_beams_82 : decode cX3_beams 82 = .ok (.iconst 0, 1) := dk_3 (dk_at dksX3_beams_3 15 rfl rfl)
theorem dX3_beams_83 : decode cX3_beams 83 = .ok (.istore 7, 2) := dk_54 7 (dk_at dksX3_beams_3 16 rfl rfl)
theorem dX3_beams_85 : decode cX3_beams 85 = .ok (.iconst 0, 1) := dk_3 (dk_at dksX3_beams_3 18 rfl rfl)
theorem dX3_beams_86 : decode cX3_beams 86 = .ok (.istore 8, 2) := dk_54 8 (dk_at dksX3_beams_3 19 rfl rfl)
theorem dX3_beams_88 : decode cX3_beams 88 = .ok (.iload 8, 2) := dk_21 8 (dk_at dksX3_beams_3 21 rfl rfl)
theorem dX3_beams_90 : decode cX3_beams 90 = .ok (.aload_n 0, 1) := dk_42 (dk_at dksX3_beams_3 23 rfl rfl)
theorem dX3_beams_91 : decode cX3_beams 91 = .ok (.getfield 322, 3) := dk_180 1 66 (dk_at dksX3_beams_4 0 rfl rfl)
theorem dX3_beams_94 : decode cX3_beams 94 = .ok (.if_icmp .ge 89, 3) := dk_162 0 89 (dk_at dksX3_beams_4 3 rfl rfl)
theorem dX3_beams_97 : decode cX3_beams 97 = .ok (.iconst 0, 1) := dk_3 (dk_at dksX3_beams_4 6 rfl rfl)
theorem dX3_beams_98 : decode cX3_beams 98 = .ok (.istore 9, 2) := dk_54 9 (dk_at dksX3_beams_4 7 rfl rfl)
theorem dX3_beams_100 : decode cX3_beams 100 = .ok (.iconst 0, 1) := dk_3 (dk_at dksX3_beams_4 9 rfl rfl)
theorem dX3_beams_101 : decode cX3_beams 101 = .ok (.istore 10, 2) := dk_54 10 (dk_at dksX3_beams_4 10 rfl rfl)
theorem dX3_beams_103 : decode cX3_beams 103 = .ok (.iload 10, 2) := dk_21 10 (dk_at dksX3_beams_4 12 rfl rfl)
theorem dX3_beams_105 : decode cX3_beams 105 = .ok (.aload_n 0, 1) := dk_42 (dk_at dksX3_beams_4 14 rfl rfl)
theorem dX3_beams_106 : decode cX3_beams 106 = .ok (.getfield 313, 3) := dk_180 1 57 (dk_at dksX3_beams_4 15 rfl rfl)
theorem dX3_beams_109 : decode cX3_beams 109 = .ok (.if_icmp .ge 53, 3) := dk_162 0 53 (dk_at dksX3_beams_4 18 rfl rfl)
theorem dX3_beams_112 : decode cX3_beams 112 = .ok (.iload 9, 2) := dk_21 9 (dk_at dksX3_beams_4 21 rfl rfl)
theorem dX3_beams_114 : decode cX3_beams 114 = .ok (.ifCond .ne 35, 3) := dk_154 0 35 (dk_at dksX3_beams_5 0 rfl rfl)
theorem dX3_beams_117 : decode cX3_beams 117 = .ok (.iload 6, 2) := dk_21 6 (dk_at dksX3_beams_5 3 rfl rfl)
theorem dX3_beams_119 : decode cX3_beams 119 = .ok (.iload 10, 2) := dk_21 10 (dk_at dksX3_beams_5 5 rfl rfl)
theorem dX3_beams_121 : decode cX3_beams 121 = .ok (.ishr, 1) := dk_122 (dk_at dksX3_beams_5 7 rfl rfl)
theorem dX3_beams_122 : decode cX3_beams 122 = .ok (.iconst 1, 1) := dk_4 (dk_at dksX3_beams_5 8 rfl rfl)
theorem dX3_beams_123 : decode cX3_beams 123 = .ok (.iand, 1) := dk_126 (dk_at dksX3_beams_5 9 rfl rfl)
theorem dX3_beams_124 : decode cX3_beams 124 = .ok (.iconst 1, 1) := dk_4 (dk_at dksX3_beams_5 10 rfl rfl)
theorem dX3_beams_125 : decode cX3_beams 125 = .ok (.if_icmp .ne 28, 3) := dk_160 0 28 (dk_at dksX3_beams_5 11 rfl rfl)
theorem dX3_beams_128 : decode cX3_beams 128 = .ok (.aload_n 0, 1) := dk_42 (dk_at dksX3_beams_5 14 rfl rfl)
theorem dX3_beams_129 : decode cX3_beams 129 = .ok (.getfield 87, 3) := dk_180 0 87 (dk_at dksX3_beams_5 15 rfl rfl)
theorem dX3_beams_132 : decode cX3_beams 132 = .ok (.bipush 10, 2) := dk_16 10 (dk_at dksX3_beams_5 18 rfl rfl)
theorem dX3_beams_134 : decode cX3_beams 134 = .ok (.iload 10, 2) := dk_21 10 (dk_at dksX3_beams_5 20 rfl rfl)
theorem dX3_beams_136 : decode cX3_beams 136 = .ok (.imul, 1) := dk_104 (dk_at dksX3_beams_5 22 rfl rfl)
theorem dX3_beams_137 : decode cX3_beams 137 = .ok (.aload_n 0, 1) := dk_42 (dk_at dksX3_beams_5 23 rfl rfl)
theorem dX3_beams_138 : decode cX3_beams 138 = .ok (.iload 8, 2) := dk_21 8 (dk_at dksX3_beams_6 0 rfl rfl)
theorem dX3_beams_140 : decode cX3_beams 140 = .ok (.invokevirtual 376, 3) := dk_182 1 120 (dk_at dksX3_beams_6 2 rfl rfl)
theorem dX3_beams_143 : decode cX3_beams 143 = .ok (.iadd, 1) := dk_96 (dk_at dksX3_beams_6 5 rfl rfl)
theorem dX3_beams_144 : decode cX3_beams 144 = .ok (.iaload, 1) := dk_46 (dk_at dksX3_beams_6 6 rfl rfl)
theorem dX3_beams_145 : decode cX3_beams 145 = .ok (.iload_n 2, 1) := dk_28 (dk_at dksX3_beams_6 7 rfl rfl)
theorem dX3_beams_146 : decode cX3_beams 146 = .ok (.if_icmp .gt 7, 3) := dk_163 0 7 (dk_at dksX3_beams_6 8 rfl rfl)
theorem dX3_beams_149 : decode cX3_beams 149 = .ok (.iconst 1, 1) := dk_4 (dk_at dksX3_beams_6 11 rfl rfl)
theorem dX3_beams_150 : decode cX3_beams 150 = .ok (.goto 4, 3) := dk_167 0 4 (dk_at dksX3_beams_6 12 rfl rfl)
theorem dX3_beams_153 : decode cX3_beams 153 = .ok (.iconst 0, 1) := dk_3 (dk_at dksX3_beams_6 15 rfl rfl)
theorem dX3_beams_154 : decode cX3_beams 154 = .ok (.istore 9, 2) := dk_54 9 (dk_at dksX3_beams_6 16 rfl rfl)
theorem dX3_beams_156 : decode cX3_beams 156 = .ok (.iinc 10 1, 3) := dk_132 10 1 (dk_at dksX3_beams_6 18 rfl rfl)
theorem dX3_beams_159 : decode cX3_beams 159 = .ok (.goto (-56), 3) := dk_167 255 200 (dk_at dksX3_beams_6 21 rfl rfl)
theorem dX3_beams_162 : decode cX3_beams 162 = .ok (.iload 7, 2) := dk_21 7 (dk_at dksX3_beams_7 0 rfl rfl)
theorem dX3_beams_164 : decode cX3_beams 164 = .ok (.iload 9, 2) := dk_21 9 (dk_at dksX3_beams_7 2 rfl rfl)
theorem dX3_beams_166 : decode cX3_beams 166 = .ok (.ifCond .eq 7, 3) := dk_153 0 7 (dk_at dksX3_beams_7 4 rfl rfl)
theorem dX3_beams_169 : decode cX3_beams 169 = .ok (.iconst 1, 1) := dk_4 (dk_at dksX3_beams_7 7 rfl rfl)
theorem dX3_beams_170 : decode cX3_beams 170 = .ok (.goto 4, 3) := dk_167 0 4 (dk_at dksX3_beams_7 8 rfl rfl)
theorem dX3_beams_173 : decode cX3_beams 173 = .ok (.iconst 0, 1) := dk_3 (dk_at dksX3_beams_7 11 rfl rfl)
theorem dX3_beams_174 : decode cX3_beams 174 = .ok (.iadd, 1) := dk_96 (dk_at dksX3_beams_7 12 rfl rfl)
theorem dX3_beams_175 : decode cX3_beams 175 = .ok (.istore 7, 2) := dk_54 7 (dk_at dksX3_beams_7 13 rfl rfl)
theorem dX3_beams_177 : decode cX3_beams 177 = .ok (.iinc 8 1, 3) := dk_132 8 1 (dk_at dksX3_beams_7 15 rfl rfl)
theorem dX3_beams_180 : decode cX3_beams 180 = .ok (.goto (-92), 3) := dk_167 255 164 (dk_at dksX3_beams_7 18 rfl rfl)
theorem dX3_beams_183 : decode cX3_beams 183 = .ok (.iload 7, 2) := dk_21 7 (dk_at dksX3_beams_7 21 rfl rfl)
theorem dX3_beams_185 : decode cX3_beams 185 = .ok (.iload 5, 2) := dk_21 5 (dk_at dksX3_beams_8 0 rfl rfl)
theorem dX3_beams_187 : decode cX3_beams 187 = .ok (.if_icmp .gt 6, 3) := dk_163 0 6 (dk_at dksX3_beams_8 2 rfl rfl)
theorem dX3_beams_190 : decode cX3_beams 190 = .ok (.goto 11, 3) := dk_167 0 11 (dk_at dksX3_beams_8 5 rfl rfl)
theorem dX3_beams_193 : decode cX3_beams 193 = .ok (.iload 6, 2) := dk_21 6 (dk_at dksX3_beams_8 8 rfl rfl)
theorem dX3_beams_195 : decode cX3_beams 195 = .ok (.istore 4, 2) := dk_54 4 (dk_at dksX3_beams_8 10 rfl rfl)
theorem dX3_beams_197 : decode cX3_beams 197 = .ok (.iload 7, 2) := dk_21 7 (dk_at dksX3_beams_8 12 rfl rfl)
theorem dX3_beams_199 : decode cX3_beams 199 = .ok (.istore 5, 2) := dk_54 5 (dk_at dksX3_beams_8 14 rfl rfl)
theorem dX3_beams_201 : decode cX3_beams 201 = .ok (.iinc 6 1, 3) := dk_132 6 1 (dk_at dksX3_beams_8 16 rfl rfl)
theorem dX3_beams_204 : decode cX3_beams 204 = .ok (.goto (-145), 3) := dk_167 255 111 (dk_at dksX3_beams_8 19 rfl rfl)
theorem dX3_beams_207 : decode cX3_beams 207 = .ok (.iload_n 3, 1) := dk_29 (dk_at dksX3_beams_8 22 rfl rfl)
theorem dX3_beams_208 : decode cX3_beams 208 = .ok (.ifCond .ne 8, 3) := dk_154 0 8 (dk_at dksX3_beams_9 0 rfl rfl)
theorem dX3_beams_211 : decode cX3_beams 211 = .ok (.iload 5, 2) := dk_21 5 (dk_at dksX3_beams_9 3 rfl rfl)
theorem dX3_beams_213 : decode cX3_beams 213 = .ok (.goto 5, 3) := dk_167 0 5 (dk_at dksX3_beams_9 5 rfl rfl)
theorem dX3_beams_216 : decode cX3_beams 216 = .ok (.iload 4, 2) := dk_21 4 (dk_at dksX3_beams_9 8 rfl rfl)
theorem dX3_beams_218 : decode cX3_beams 218 = .ok (.ireturn, 1) := dk_172 (dk_at dksX3_beams_9 10 rfl rfl)
abbrev cX3_bits : ByteArray := prog_14_method_7_code
def yX3_bits : MethodName := ⟨RX3, "bits", "(I)I"⟩
def dkwX3_bits_1 : List UInt8 := [27, 172]
abbrev dktX3_bits_1 : List UInt8 := dkwX3_bits_1 ++ []
def dkwX3_bits_0 : List UInt8 := [3, 60, 3, 61, 28, 16, 10, 162, 0, 17, 27, 26, 28, 122, 4, 126, 96, 60, 132, 2, 1, 167, 255, 239]
abbrev dktX3_bits_0 : List UInt8 := dkwX3_bits_0 ++ dktX3_bits_1
theorem dksX3_bits_0 : cX3_bits.data.toList.drop 0 = dktX3_bits_0 := by decide +kernel
theorem dksX3_bits_1 : cX3_bits.data.toList.drop 24 = dktX3_bits_1 := dk_seg dksX3_bits_0 24 rfl rfl
theorem dX3_bits_0 : decode cX3_bits 0 = .ok (.iconst 0, 1) := dk_3 (dk_at dksX3_bits_0 0 rfl rfl)
theorem dX3_bits_1 : decode cX3_bits 1 = .ok (.istore_n 1, 1) := dk_60 (dk_at dksX3_bits_0 1 rfl rfl)
theorem dX3_bits_2 : decode cX3_bits 2 = .ok (.iconst 0, 1) := dk_3 (dk_at dksX3_bits_0 2 rfl rfl)
theorem dX3_bits_3 : decode cX3_bits 3 = .ok (.istore_n 2, 1) := dk_61 (dk_at dksX3_bits_0 3 rfl rfl)
theorem dX3_bits_4 : decode cX3_bits 4 = .ok (.iload_n 2, 1) := dk_28 (dk_at dksX3_bits_0 4 rfl rfl)
theorem dX3_bits_5 : decode cX3_bits 5 = .ok (.bipush 10, 2) := dk_16 10 (dk_at dksX3_bits_0 5 rfl rfl)
theorem dX3_bits_7 : decode cX3_bits 7 = .ok (.if_icmp .ge 17, 3) := dk_162 0 17 (dk_at dksX3_bits_0 7 rfl rfl)
theorem dX3_bits_10 : decode cX3_bits 10 = .ok (.iload_n 1, 1) := dk_27 (dk_at dksX3_bits_0 10 rfl rfl)
theorem dX3_bits_11 : decode cX3_bits 11 = .ok (.iload_n 0, 1) := dk_26 (dk_at dksX3_bits_0 11 rfl rfl)
theorem dX3_bits_12 : decode cX3_bits 12 = .ok (.iload_n 2, 1) := dk_28 (dk_at dksX3_bits_0 12 rfl rfl)
theorem dX3_bits_13 : decode cX3_bits 13 = .ok (.ishr, 1) := dk_122 (dk_at dksX3_bits_0 13 rfl rfl)
theorem dX3_bits_14 : decode cX3_bits 14 = .ok (.iconst 1, 1) := dk_4 (dk_at dksX3_bits_0 14 rfl rfl)
theorem dX3_bits_15 : decode cX3_bits 15 = .ok (.iand, 1) := dk_126 (dk_at dksX3_bits_0 15 rfl rfl)
theorem dX3_bits_16 : decode cX3_bits 16 = .ok (.iadd, 1) := dk_96 (dk_at dksX3_bits_0 16 rfl rfl)
theorem dX3_bits_17 : decode cX3_bits 17 = .ok (.istore_n 1, 1) := dk_60 (dk_at dksX3_bits_0 17 rfl rfl)
theorem dX3_bits_18 : decode cX3_bits 18 = .ok (.iinc 2 1, 3) := dk_132 2 1 (dk_at dksX3_bits_0 18 rfl rfl)
theorem dX3_bits_21 : decode cX3_bits 21 = .ok (.goto (-17), 3) := dk_167 255 239 (dk_at dksX3_bits_0 21 rfl rfl)
theorem dX3_bits_24 : decode cX3_bits 24 = .ok (.iload_n 1, 1) := dk_27 (dk_at dksX3_bits_1 0 rfl rfl)
theorem dX3_bits_25 : decode cX3_bits 25 = .ok (.ireturn, 1) := dk_172 (dk_at dksX3_bits_1 1 rfl rfl)
abbrev cX3_straps : ByteArray := prog_14_method_91_code
def yX3_straps : MethodName := ⟨RX3, "straps", "(I)I"⟩
def dkwX3_straps_5 : List UInt8 := [28, 172]
abbrev dktX3_straps_5 : List UInt8 := dkwX3_straps_5 ++ []
def dkwX3_straps_4 : List UInt8 := [182, 1, 183, 54, 4, 28, 21, 4, 153, 0, 7, 4, 167, 0, 4, 3, 96, 61, 132, 3, 1, 167, 255, 191]
abbrev dktX3_straps_4 : List UInt8 := dkwX3_straps_4 ++ dktX3_straps_5
def dkwX3_straps_3 : List UInt8 := [7, 29, 104, 5, 96, 46, 42, 180, 0, 7, 163, 0, 7, 4, 167, 0, 13, 3, 167, 0, 9, 42, 29, 27]
abbrev dktX3_straps_3 : List UInt8 := dkwX3_straps_3 ++ dktX3_straps_4
def dkwX3_straps_2 : List UInt8 := [3, 61, 3, 62, 29, 42, 180, 1, 66, 162, 0, 63, 42, 29, 182, 1, 167, 153, 0, 28, 42, 180, 0, 26]
abbrev dktX3_straps_2 : List UInt8 := dkwX3_straps_2 ++ dktX3_straps_3
def dkwX3_straps_1 : List UInt8 := [182, 1, 123, 3, 61, 28, 16, 40, 162, 0, 16, 42, 180, 0, 129, 28, 3, 79, 132, 2, 1, 167, 255, 240]
abbrev dktX3_straps_1 : List UInt8 := dkwX3_straps_1 ++ dktX3_straps_2
def dkwX3_straps_0 : List UInt8 := [42, 3, 181, 0, 147, 42, 27, 4, 16, 8, 184, 1, 129, 4, 182, 1, 50, 154, 0, 5, 3, 172, 42]
abbrev dktX3_straps_0 : List UInt8 := dkwX3_straps_0 ++ dktX3_straps_1
theorem dksX3_straps_0 : cX3_straps.data.toList.drop 0 = dktX3_straps_0 := by decide +kernel
theorem dksX3_straps_1 : cX3_straps.data.toList.drop 23 = dktX3_straps_1 := dk_seg dksX3_straps_0 23 rfl rfl
theorem dksX3_straps_2 : cX3_straps.data.toList.drop 47 = dktX3_straps_2 := dk_seg dksX3_straps_1 24 rfl rfl
theorem dksX3_straps_3 : cX3_straps.data.toList.drop 71 = dktX3_straps_3 := dk_seg dksX3_straps_2 24 rfl rfl
theorem dksX3_straps_4 : cX3_straps.data.toList.drop 95 = dktX3_straps_4 := dk_seg dksX3_straps_3 24 rfl rfl
theorem dksX3_straps_5 : cX3_straps.data.toList.drop 119 = dktX3_straps_5 := dk_seg dksX3_straps_4 24 rfl rfl
theorem dX3_straps_0 : decode cX3_straps 0 = .ok (.aload_n 0, 1) := dk_42 (dk_at dksX3_straps_0 0 rfl rfl)
theorem dX3_straps_1 : decode cX3_straps 1 = .ok (.iconst 0, 1) := dk_3 (dk_at dksX3_straps_0 1 rfl rfl)
theorem dX3_straps_2 : decode cX3_straps 2 = .ok (.putfield 147, 3) := dk_181 0 147 (dk_at dksX3_straps_0 2 rfl rfl)
theorem dX3_straps_5 : decode cX3_straps 5 = .ok (.aload_n 0, 1) := dk_42 (dk_at dksX3_straps_0 5 rfl rfl)
theorem dX3_straps_6 : decode cX3_straps 6 = .ok (.iload_n 1, 1) := dk_27 (dk_at dksX3_straps_0 6 rfl rfl)
theorem dX3_straps_7 : decode cX3_straps 7 = .ok (.iconst 1, 1) := dk_4 (dk_at dksX3_straps_0 7 rfl rfl)
theorem dX3_straps_8 : decode cX3_straps 8 = .ok (.bipush 8, 2) := dk_16 8 (dk_at dksX3_straps_0 8 rfl rfl)
theorem dX3_straps_10 : decode cX3_straps 10 = .ok (.invokestatic 385, 3) := dk_184 1 129 (dk_at dksX3_straps_0 10 rfl rfl)
theorem dX3_straps_13 : decode cX3_straps 13 = .ok (.iconst 1, 1) := dk_4 (dk_at dksX3_straps_0 13 rfl rfl)
theorem dX3_straps_14 : decode cX3_straps 14 = .ok (.invokevirtual 306, 3) := dk_182 1 50 (dk_at dksX3_straps_0 14 rfl rfl)
theorem dX3_straps_17 : decode cX3_straps 17 = .ok (.ifCond .ne 5, 3) := dk_154 0 5 (dk_at dksX3_straps_0 17 rfl rfl)
theorem dX3_straps_20 : decode cX3_straps 20 = .ok (.iconst 0, 1) := dk_3 (dk_at dksX3_straps_0 20 rfl rfl)
theorem dX3_straps_21 : decode cX3_straps 21 = .ok (.ireturn, 1) := dk_172 (dk_at dksX3_straps_0 21 rfl rfl)
theorem dX3_straps_22 : decode cX3_straps 22 = .ok (.aload_n 0, 1) := dk_42 (dk_at dksX3_straps_0 22 rfl rfl)
theorem dX3_straps_23 : decode cX3_straps 23 = .ok (.invokevirtual 379, 3) := dk_182 1 123 (dk_at dksX3_straps_1 0 rfl rfl)
theorem dX3_straps_26 : decode cX3_straps 26 = .ok (.iconst 0, 1) := dk_3 (dk_at dksX3_straps_1 3 rfl rfl)
theorem dX3_straps_27 : decode cX3_straps 27 = .ok (.istore_n 2, 1) := dk_61 (dk_at dksX3_straps_1 4 rfl rfl)
theorem dX3_straps_28 : decode cX3_straps 28 = .ok (.iload_n 2, 1) := dk_28 (dk_at dksX3_straps_1 5 rfl rfl)
theorem dX3_straps_29 : decode cX3_straps 29 = .ok (.bipush 40, 2) := dk_16 40 (dk_at dksX3_straps_1 6 rfl rfl)
theorem dX3_straps_31 : decode cX3_straps 31 = .ok (.if_icmp .ge 16, 3) := dk_162 0 16 (dk_at dksX3_straps_1 8 rfl rfl)
theorem dX3_straps_34 : decode cX3_straps 34 = .ok (.aload_n 0, 1) := dk_42 (dk_at dksX3_straps_1 11 rfl rfl)
theorem dX3_straps_35 : decode cX3_straps 35 = .ok (.getfield 129, 3) := dk_180 0 129 (dk_at dksX3_straps_1 12 rfl rfl)
theorem dX3_straps_38 : decode cX3_straps 38 = .ok (.iload_n 2, 1) := dk_28 (dk_at dksX3_straps_1 15 rfl rfl)
theorem dX3_straps_39 : decode cX3_straps 39 = .ok (.iconst 0, 1) := dk_3 (dk_at dksX3_straps_1 16 rfl rfl)
theorem dX3_straps_40 : decode cX3_straps 40 = .ok (.iastore, 1) := dk_79 (dk_at dksX3_straps_1 17 rfl rfl)
theorem dX3_straps_41 : decode cX3_straps 41 = .ok (.iinc 2 1, 3) := dk_132 2 1 (dk_at dksX3_straps_1 18 rfl rfl)
theorem dX3_straps_44 : decode cX3_straps 44 = .ok (.goto (-16), 3) := dk_167 255 240 (dk_at dksX3_straps_1 21 rfl rfl)
theorem dX3_straps_47 : decode cX3_straps 47 = .ok (.iconst 0, 1) := dk_3 (dk_at dksX3_straps_2 0 rfl rfl)
theorem dX3_straps_48 : decode cX3_straps 48 = .ok (.istore_n 2, 1) := dk_61 (dk_at dksX3_straps_2 1 rfl rfl)
theorem dX3_straps_49 : decode cX3_straps 49 = .ok (.iconst 0, 1) := dk_3 (dk_at dksX3_straps_2 2 rfl rfl)
theorem dX3_straps_50 : decode cX3_straps 50 = .ok (.istore_n 3, 1) := dk_62 (dk_at dksX3_straps_2 3 rfl rfl)
theorem dX3_straps_51 : decode cX3_straps 51 = .ok (.iload_n 3, 1) := dk_29 (dk_at dksX3_straps_2 4 rfl rfl)
theorem dX3_straps_52 : decode cX3_straps 52 = .ok (.aload_n 0, 1) := dk_42 (dk_at dksX3_straps_2 5 rfl rfl)
theorem dX3_straps_53 : decode cX3_straps 53 = .ok (.getfield 322, 3) := dk_180 1 66 (dk_at dksX3_straps_2 6 rfl rfl)
theorem dX3_straps_56 : decode cX3_straps 56 = .ok (.if_icmp .ge 63, 3) := dk_162 0 63 (dk_at dksX3_straps_2 9 rfl rfl)
theorem dX3_straps_59 : decode cX3_straps 59 = .ok (.aload_n 0, 1) := dk_42 (dk_at dksX3_straps_2 12 rfl rfl)
theorem dX3_straps_60 : decode cX3_straps 60 = .ok (.iload_n 3, 1) := dk_29 (dk_at dksX3_straps_2 13 rfl rfl)
theorem dX3_straps_61 : decode cX3_straps 61 = .ok (.invokevirtual 423, 3) := dk_182 1 167 (dk_at dksX3_straps_2 14 rfl rfl)
theorem dX3_straps_64 : decode cX3_straps 64 = .ok (.ifCond .eq 28, 3) := dk_153 0 28 (dk_at dksX3_straps_2 17 rfl rfl)
theorem dX3_straps_67 : decode cX3_straps 67 = .ok (.aload_n 0, 1) := dk_42 (dk_at dksX3_straps_2 20 rfl rfl)
theorem dX3_straps_68 : decode cX3_straps 68 = .ok (.getfield 26, 3) := dk_180 0 26 (dk_at dksX3_straps_2 21 rfl rfl)
theorem dX3_straps_71 : decode cX3_straps 71 = .ok (.iconst 4, 1) := dk_7 (dk_at dksX3_straps_3 0 rfl rfl)
theorem dX3_straps_72 : decode cX3_straps 72 = .ok (.iload_n 3, 1) := dk_29 (dk_at dksX3_straps_3 1 rfl rfl)
theorem dX3_straps_73 : decode cX3_straps 73 = .ok (.imul, 1) := dk_104 (dk_at dksX3_straps_3 2 rfl rfl)
theorem dX3_straps_74 : decode cX3_straps 74 = .ok (.iconst 2, 1) := dk_5 (dk_at dksX3_straps_3 3 rfl rfl)
theorem dX3_straps_75 : decode cX3_straps 75 = .ok (.iadd, 1) := dk_96 (dk_at dksX3_straps_3 4 rfl rfl)
theorem dX3_straps_76 : decode cX3_straps 76 = .ok (.iaload, 1) := dk_46 (dk_at dksX3_straps_3 5 rfl rfl)
theorem dX3_straps_77 : decode cX3_straps 77 = .ok (.aload_n 0, 1) := dk_42 (dk_at dksX3_straps_3 6 rfl rfl)
theorem dX3_straps_78 : decode cX3_straps 78 = .ok (.getfield 7, 3) := dk_180 0 7 (dk_at dksX3_straps_3 7 rfl rfl)
theorem dX3_straps_81 : decode cX3_straps 81 = .ok (.if_icmp .gt 7, 3) := dk_163 0 7 (dk_at dksX3_straps_3 10 rfl rfl)
theorem dX3_straps_84 : decode cX3_straps 84 = .ok (.iconst 1, 1) := dk_4 (dk_at dksX3_straps_3 13 rfl rfl)
theorem dX3_straps_85 : decode cX3_straps 85 = .ok (.goto 13, 3) := dk_167 0 13 (dk_at dksX3_straps_3 14 rfl rfl)
theorem dX3_straps_88 : decode cX3_straps 88 = .ok (.iconst 0, 1) := dk_3 (dk_at dksX3_straps_3 17 rfl rfl)
theorem dX3_straps_89 : decode cX3_straps 89 = .ok (.goto 9, 3) := dk_167 0 9 (dk_at dksX3_straps_3 18 rfl rfl)
theorem dX3_straps_92 : decode cX3_straps 92 = .ok (.aload_n 0, 1) := dk_42 (dk_at dksX3_straps_3 21 rfl rfl)
theorem dX3_straps_93 : decode cX3_straps 93 = .ok (.iload_n 3, 1) := dk_29 (dk_at dksX3_straps_3 22 rfl rfl)
theorem dX3_straps_94 : decode cX3_straps 94 = .ok (.iload_n 1, 1) := dk_27 (dk_at dksX3_straps_3 23 rfl rfl)
theorem dX3_straps_95 : decode cX3_straps 95 = .ok (.invokevirtual 439, 3) := dk_182 1 183 (dk_at dksX3_straps_4 0 rfl rfl)
theorem dX3_straps_98 : decode cX3_straps 98 = .ok (.istore 4, 2) := dk_54 4 (dk_at dksX3_straps_4 3 rfl rfl)
theorem dX3_straps_100 : decode cX3_straps 100 = .ok (.iload_n 2, 1) := dk_28 (dk_at dksX3_straps_4 5 rfl rfl)
theorem dX3_straps_101 : decode cX3_straps 101 = .ok (.iload 4, 2) := dk_21 4 (dk_at dksX3_straps_4 6 rfl rfl)
theorem dX3_straps_103 : decode cX3_straps 103 = .ok (.ifCond .eq 7, 3) := dk_153 0 7 (dk_at dksX3_straps_4 8 rfl rfl)
theorem dX3_straps_106 : decode cX3_straps 106 = .ok (.iconst 1, 1) := dk_4 (dk_at dksX3_straps_4 11 rfl rfl)
theorem dX3_straps_107 : decode cX3_straps 107 = .ok (.goto 4, 3) := dk_167 0 4 (dk_at dksX3_straps_4 12 rfl rfl)
theorem dX3_straps_110 : decode cX3_straps 110 = .ok (.iconst 0, 1) := dk_3 (dk_at dksX3_straps_4 15 rfl rfl)
theorem dX3_straps_111 : decode cX3_straps 111 = .ok (.iadd, 1) := dk_96 (dk_at dksX3_straps_4 16 rfl rfl)
theorem dX3_straps_112 : decode cX3_straps 112 = .ok (.istore_n 2, 1) := dk_61 (dk_at dksX3_straps_4 17 rfl rfl)
theorem dX3_straps_113 : decode cX3_straps 113 = .ok (.iinc 3 1, 3) := dk_132 3 1 (dk_at dksX3_straps_4 18 rfl rfl)
theorem dX3_straps_116 : decode cX3_straps 116 = .ok (.goto (-65), 3) := dk_167 255 191 (dk_at dksX3_straps_4 21 rfl rfl)
theorem dX3_straps_119 : decode cX3_straps 119 = .ok (.iload_n 2, 1) := dk_28 (dk_at dksX3_straps_5 0 rfl rfl)
theorem dX3_straps_120 : decode cX3_straps 120 = .ok (.ireturn, 1) := dk_172 (dk_at dksX3_straps_5 1 rfl rfl)
abbrev cX3_hangs : ByteArray := prog_14_method_90_code
def yX3_hangs : MethodName := ⟨RX3, "hangs", "(II)Z"⟩
def dkwX3_hangs_9 : List UInt8 := [132, 5, 1, 167, 255, 230, 4, 172]
abbrev dktX3_hangs_9 : List UInt8 := dkwX3_hangs_9 ++ []
def dkwX3_hangs_8 : List UInt8 := [21, 5, 21, 4, 162, 0, 25, 42, 180, 0, 129, 16, 8, 29, 104, 21, 5, 96, 92, 46, 4, 96, 79]
abbrev dktX3_hangs_8 : List UInt8 := dkwX3_hangs_8 ++ dktX3_hangs_9
def dkwX3_hangs_7 : List UInt8 := [132, 5, 1, 167, 255, 96, 29, 2, 160, 0, 5, 3, 172, 42, 27, 29, 21, 4, 182, 1, 176, 54, 5]
abbrev dktX3_hangs_7 : List UInt8 := dkwX3_hangs_7 ++ dktX3_hangs_8
def dkwX3_hangs_6 : List UInt8 := [104, 21, 4, 96, 46, 161, 0, 6, 167, 0, 10, 21, 5, 62, 21, 6, 54, 4, 132, 6, 1, 167, 255, 114]
abbrev dktX3_hangs_6 : List UInt8 := dkwX3_hangs_6 ++ dktX3_hangs_7
def dkwX3_hangs_5 : List UInt8 := [2, 159, 0, 34, 42, 180, 0, 96, 16, 8, 21, 5, 104, 21, 6, 96, 46, 42, 180, 0, 96, 16, 8, 29]
abbrev dktX3_hangs_5 : List UInt8 := dkwX3_hangs_5 ++ dktX3_hangs_6
def dkwX3_hangs_4 : List UInt8 := [21, 7, 2, 159, 0, 63, 42, 21, 5, 21, 7, 21, 6, 28, 182, 1, 179, 154, 0, 6, 167, 0, 46, 29]
abbrev dktX3_hangs_4 : List UInt8 := dkwX3_hangs_4 ++ dktX3_hangs_5
def dkwX3_hangs_3 : List UInt8 := [160, 0, 89, 42, 180, 0, 96, 16, 8, 21, 5, 104, 21, 6, 96, 46, 42, 180, 0, 7, 163, 0, 69]
abbrev dktX3_hangs_3 : List UInt8 := dkwX3_hangs_3 ++ dktX3_hangs_4
def dkwX3_hangs_2 : List UInt8 := [182, 1, 176, 54, 7, 42, 180, 0, 23, 16, 8, 21, 5, 104, 21, 6, 96, 46, 42, 27, 182, 1, 120]
abbrev dktX3_hangs_2 : List UInt8 := dkwX3_hangs_2 ++ dktX3_hangs_3
def dkwX3_hangs_1 : List UInt8 := [180, 0, 20, 21, 5, 46, 162, 0, 136, 42, 21, 5, 182, 1, 100, 154, 0, 127, 42, 27, 21, 5, 21, 6]
abbrev dktX3_hangs_1 : List UInt8 := dkwX3_hangs_1 ++ dktX3_hangs_2
def dkwX3_hangs_0 : List UInt8 := [2, 62, 2, 54, 4, 3, 54, 5, 21, 5, 42, 180, 1, 63, 162, 0, 157, 4, 54, 6, 21, 6, 42]
abbrev dktX3_hangs_0 : List UInt8 := dkwX3_hangs_0 ++ dktX3_hangs_1
theorem dksX3_hangs_0 : cX3_hangs.data.toList.drop 0 = dktX3_hangs_0 := by decide +kernel
theorem dksX3_hangs_1 : cX3_hangs.data.toList.drop 23 = dktX3_hangs_1 := dk_seg dksX3_hangs_0 23 rfl rfl
theorem dksX3_hangs_2 : cX3_hangs.data.toList.drop 47 = dktX3_hangs_2 := dk_seg dksX3_hangs_1 24 rfl rfl
theorem dksX3_hangs_3 : cX3_hangs.data.toList.drop 70 = dktX3_hangs_3 := dk_seg dksX3_hangs_2 23 rfl rfl
theorem dksX3_hangs_4 : cX3_hangs.data.toList.drop 93 = dktX3_hangs_4 := dk_seg dksX3_hangs_3 23 rfl rfl
theorem dksX3_hangs_5 : cX3_hangs.data.toList.drop 117 = dktX3_hangs_5 := dk_seg dksX3_hangs_4 24 rfl rfl
theorem dksX3_hangs_6 : cX3_hangs.data.toList.drop 141 = dktX3_hangs_6 := dk_seg dksX3_hangs_5 24 rfl rfl
theorem dksX3_hangs_7 : cX3_hangs.data.toList.drop 165 = dktX3_hangs_7 := dk_seg dksX3_hangs_6 24 rfl rfl
theorem dksX3_hangs_8 : cX3_hangs.data.toList.drop 188 = dktX3_hangs_8 := dk_seg dksX3_hangs_7 23 rfl rfl
theorem dksX3_hangs_9 : cX3_hangs.data.toList.drop 211 = dktX3_hangs_9 := dk_seg dksX3_hangs_8 23 rfl rfl
theorem dX3_hangs_0 : decode cX3_hangs 0 = .ok (.iconst (-1), 1) := dk_2 (dk_at dksX3_hangs_0 0 rfl rfl)
theorem dX3_hangs_1 : decode cX3_hangs 1 = .ok (.istore_n 3, 1) := dk_62 (dk_at dksX3_hangs_0 1 rfl rfl)
theorem dX3_hangs_2 : decode cX3_hangs 2 = .ok (.iconst (-1), 1) := dk_2 (dk_at dksX3_hangs_0 2 rfl rfl)
theorem dX3_hangs_3 : decode cX3_hangs 3 = .ok (.istore 4, 2) := dk_54 4 (dk_at dksX3_hangs_0 3 rfl rfl)
theorem dX3_hangs_5 : decode cX3_hangs 5 = .ok (.iconst 0, 1) := dk_3 (dk_at dksX3_hangs_0 5 rfl rfl)
theorem dX3_hangs_6 : decode cX3_hangs 6 = .ok (.istore 5, 2) := dk_54 5 (dk_at dksX3_hangs_0 6 rfl rfl)
theorem dX3_hangs_8 : decode cX3_hangs 8 = .ok (.iload 5, 2) := dk_21 5 (dk_at dksX3_hangs_0 8 rfl rfl)
theorem dX3_hangs_10 : decode cX3_hangs 10 = .ok (.aload_n 0, 1) := dk_42 (dk_at dksX3_hangs_0 10 rfl rfl)
theorem dX3_hangs_11 : decode cX3_hangs 11 = .ok (.getfield 319, 3) := dk_180 1 63 (dk_at dksX3_hangs_0 11 rfl rfl)
theorem dX3_hangs_14 : decode cX3_hangs 14 = .ok (.if_icmp .ge 157, 3) := dk_162 0 157 (dk_at dksX3_hangs_0 14 rfl rfl)
theorem dX3_hangs_17 : decode cX3_hangs 17 = .ok (.iconst 1, 1) := dk_4 (dk_at dksX3_hangs_0 17 rfl rfl)
theorem dX3_hangs_18 : decode cX3_hangs 18 = .ok (.istore 6, 2) := dk_54 6 (dk_at dksX3_hangs_0 18 rfl rfl)
theorem dX3_hangs_20 : decode cX3_hangs 20 = .ok (.iload 6, 2) := dk_21 6 (dk_at dksX3_hangs_0 20 rfl rfl)
theorem dX3_hangs_22 : decode cX3_hangs 22 = .ok (.aload_n 0, 1) := dk_42 (dk_at dksX3_hangs_0 22 rfl rfl)
theorem dX3_hangs_23 : decode cX3_hangs 23 = .ok (.getfield 20, 3) := dk_180 0 20 (dk_at dksX3_hangs_1 0 rfl rfl)
theorem dX3_hangs_26 : decode cX3_hangs 26 = .ok (.iload 5, 2) := dk_21 5 (dk_at dksX3_hangs_1 3 rfl rfl)
theorem dX3_hangs_28 : decode cX3_hangs 28 = .ok (.iaload, 1) := dk_46 (dk_at dksX3_hangs_1 5 rfl rfl)
theorem dX3_hangs_29 : decode cX3_hangs 29 = .ok (.if_icmp .ge 136, 3) := dk_162 0 136 (dk_at dksX3_hangs_1 6 rfl rfl)
theorem dX3_hangs_32 : decode cX3_hangs 32 = .ok (.aload_n 0, 1) := dk_42 (dk_at dksX3_hangs_1 9 rfl rfl)
theorem dX3_hangs_33 : decode cX3_hangs 33 = .ok (.iload 5, 2) := dk_21 5 (dk_at dksX3_hangs_1 10 rfl rfl)
theorem dX3_hangs_35 : decode cX3_hangs 35 = .ok (.invokevirtual 356, 3) := dk_182 1 100 (dk_at dksX3_hangs_1 12 rfl rfl)
theorem dX3_hangs_38 : decode cX3_hangs 38 = .ok (.ifCond .ne 127, 3) := dk_154 0 127 (dk_at dksX3_hangs_1 15 rfl rfl)
theorem dX3_hangs_41 : decode cX3_hangs 41 = .ok (.aload_n 0, 1) := dk_42 (dk_at dksX3_hangs_1 18 rfl rfl)
theorem dX3_hangs_42 : decode cX3_hangs 42 = .ok (.iload_n 1, 1) := dk_27 (dk_at dksX3_hangs_1 19 rfl rfl)
theorem dX3_hangs_43 : decode cX3_hangs 43 = .ok (.iload 5, 2) := dk_21 5 (dk_at dksX3_hangs_1 20 rfl rfl)
theorem dX3_hangs_45 : decode cX3_hangs 45 = .ok (.iload 6, 2) := dk_21 6 (dk_at dksX3_hangs_1 22 rfl rfl)
theorem dX3_hangs_47 : decode cX3_hangs 47 = .ok (.invokevirtual 432, 3) := dk_182 1 176 (dk_at dksX3_hangs_2 0 rfl rfl)
theorem dX3_hangs_50 : decode cX3_hangs 50 = .ok (.istore 7, 2) := dk_54 7 (dk_at dksX3_hangs_2 3 rfl rfl)
theorem dX3_hangs_52 : decode cX3_hangs 52 = .ok (.aload_n 0, 1) := dk_42 (dk_at dksX3_hangs_2 5 rfl rfl)
theorem dX3_hangs_53 : decode cX3_hangs 53 = .ok (.getfield 23, 3) := dk_180 0 23 (dk_at dksX3_hangs_2 6 rfl rfl)
theorem dX3_hangs_56 : decode cX3_hangs 56 = .ok (.bipush 8, 2) := dk_16 8 (dk_at dksX3_hangs_2 9 rfl rfl)
theorem dX3_hangs_58 : decode cX3_hangs 58 = .ok (.iload 5, 2) := dk_21 5 (dk_at dksX3_hangs_2 11 rfl rfl)
theorem dX3_hangs_60 : decode cX3_hangs 60 = .ok (.imul, 1) := dk_104 (dk_at dksX3_hangs_2 13 rfl rfl)
theorem dX3_hangs_61 : decode cX3_hangs 61 = .ok (.iload 6, 2) := dk_21 6 (dk_at dksX3_hangs_2 14 rfl rfl)
theorem dX3_hangs_63 : decode cX3_hangs 63 = .ok (.iadd, 1) := dk_96 (dk_at dksX3_hangs_2 16 rfl rfl)
theorem dX3_hangs_64 : decode cX3_hangs 64 = .ok (.iaload, 1) := dk_46 (dk_at dksX3_hangs_2 17 rfl rfl)
theorem dX3_hangs_65 : decode cX3_hangs 65 = .ok (.aload_n 0, 1) := dk_42 (dk_at dksX3_hangs_2 18 rfl rfl)
theorem dX3_hangs_66 : decode cX3_hangs 66 = .ok (.iload_n 1, 1) := dk_27 (dk_at dksX3_hangs_2 19 rfl rfl)
theorem dX3_hangs_67 : decode cX3_hangs 67 = .ok (.invokevirtual 376, 3) := dk_182 1 120 (dk_at dksX3_hangs_2 20 rfl rfl)
theorem dX3_hangs_70 : decode cX3_hangs 70 = .ok (.if_icmp .ne 89, 3) := dk_160 0 89 (dk_at dksX3_hangs_3 0 rfl rfl)
theorem dX3_hangs_73 : decode cX3_hangs 73 = .ok (.aload_n 0, 1) := dk_42 (dk_at dksX3_hangs_3 3 rfl rfl)
theorem dX3_hangs_74 : decode cX3_hangs 74 = .ok (.getfield 96, 3) := dk_180 0 96 (dk_at dksX3_hangs_3 4 rfl rfl)
theorem dX3_hangs_77 : decode cX3_hangs 77 = .ok (.bipush 8, 2) := dk_16 8 (dk_at dksX3_hangs_3 7 rfl rfl)
theorem dX3_hangs_79 : decode cX3_hangs 79 = .ok (.iload 5, 2) := dk_21 5 (dk_at dksX3_hangs_3 9 rfl rfl)
theorem dX3_hangs_81 : decode cX3_hangs 81 = .ok (.imul, 1) := dk_104 (dk_at dksX3_hangs_3 11 rfl rfl)
theorem dX3_hangs_82 : decode cX3_hangs 82 = .ok (.iload 6, 2) := dk_21 6 (dk_at dksX3_hangs_3 12 rfl rfl)
theorem dX3_hangs_84 : decode cX3_hangs 84 = .ok (.iadd, 1) := dk_96 (dk_at dksX3_hangs_3 14 rfl rfl)
theorem dX3_hangs_85 : decode cX3_hangs 85 = .ok (.iaload, 1) := dk_46 (dk_at dksX3_hangs_3 15 rfl rfl)
theorem dX3_hangs_86 : decode cX3_hangs 86 = .ok (.aload_n 0, 1) := dk_42 (dk_at dksX3_hangs_3 16 rfl rfl)
theorem dX3_hangs_87 : decode cX3_hangs 87 = .ok (.getfield 7, 3) := dk_180 0 7 (dk_at dksX3_hangs_3 17 rfl rfl)
theorem dX3_hangs_90 : decode cX3_hangs 90 = .ok (.if_icmp .gt 69, 3) := dk_163 0 69 (dk_at dksX3_hangs_3 20 rfl rfl)
theorem dX3_hangs_93 : decode cX3_hangs 93 = .ok (.iload 7, 2) := dk_21 7 (dk_at dksX3_hangs_4 0 rfl rfl)
theorem dX3_hangs_95 : decode cX3_hangs 95 = .ok (.iconst (-1), 1) := dk_2 (dk_at dksX3_hangs_4 2 rfl rfl)
theorem dX3_hangs_96 : decode cX3_hangs 96 = .ok (.if_icmp .eq 63, 3) := dk_159 0 63 (dk_at dksX3_hangs_4 3 rfl rfl)
theorem dX3_hangs_99 : decode cX3_hangs 99 = .ok (.aload_n 0, 1) := dk_42 (dk_at dksX3_hangs_4 6 rfl rfl)
theorem dX3_hangs_100 : decode cX3_hangs 100 = .ok (.iload 5, 2) := dk_21 5 (dk_at dksX3_hangs_4 7 rfl rfl)
theorem dX3_hangs_102 : decode cX3_hangs 102 = .ok (.iload 7, 2) := dk_21 7 (dk_at dksX3_hangs_4 9 rfl rfl)
theorem dX3_hangs_104 : decode cX3_hangs 104 = .ok (.iload 6, 2) := dk_21 6 (dk_at dksX3_hangs_4 11 rfl rfl)
theorem dX3_hangs_106 : decode cX3_hangs 106 = .ok (.iload_n 2, 1) := dk_28 (dk_at dksX3_hangs_4 13 rfl rfl)
theorem dX3_hangs_107 : decode cX3_hangs 107 = .ok (.invokevirtual 435, 3) := dk_182 1 179 (dk_at dksX3_hangs_4 14 rfl rfl)
theorem dX3_hangs_110 : decode cX3_hangs 110 = .ok (.ifCond .ne 6, 3) := dk_154 0 6 (dk_at dksX3_hangs_4 17 rfl rfl)
theorem dX3_hangs_113 : decode cX3_hangs 113 = .ok (.goto 46, 3) := dk_167 0 46 (dk_at dksX3_hangs_4 20 rfl rfl)
theorem dX3_hangs_116 : decode cX3_hangs 116 = .ok (.iload_n 3, 1) := dk_29 (dk_at dksX3_hangs_4 23 rfl rfl)
theorem dX3_hangs_117 : decode cX3_hangs 117 = .ok (.iconst (-1), 1) := dk_2 (dk_at dksX3_hangs_5 0 rfl rfl)
theorem dX3_hangs_118 : decode cX3_hangs 118 = .ok (.if_icmp .eq 34, 3) := dk_159 0 34 (dk_at dksX3_hangs_5 1 rfl rfl)
theorem dX3_hangs_121 : decode cX3_hangs 121 = .ok (.aload_n 0, 1) := dk_42 (dk_at dksX3_hangs_5 4 rfl rfl)
theorem dX3_hangs_122 : decode cX3_hangs 122 = .ok (.getfield 96, 3) := dk_180 0 96 (dk_at dksX3_hangs_5 5 rfl rfl)
theorem dX3_hangs_125 : decode cX3_hangs 125 = .ok (.bipush 8, 2) := dk_16 8 (dk_at dksX3_hangs_5 8 rfl rfl)
theorem dX3_hangs_127 : decode cX3_hangs 127 = .ok (.iload 5, 2) := dk_21 5 (dk_at dksX3_hangs_5 10 rfl rfl)
theorem dX3_hangs_129 : decode cX3_hangs 129 = .ok (.imul, 1) := dk_104 (dk_at dksX3_hangs_5 12 rfl rfl)
theorem dX3_hangs_130 : decode cX3_hangs 130 = .ok (.iload 6, 2) := dk_21 6 (dk_at dksX3_hangs_5 13 rfl rfl)
theorem dX3_hangs_132 : decode cX3_hangs 132 = .ok (.iadd, 1) := dk_96 (dk_at dksX3_hangs_5 15 rfl rfl)
theorem dX3_hangs_133 : decode cX3_hangs 133 = .ok (.iaload, 1) := dk_46 (dk_at dksX3_hangs_5 16 rfl rfl)
theorem dX3_hangs_134 : decode cX3_hangs 134 = .ok (.aload_n 0, 1) := dk_42 (dk_at dksX3_hangs_5 17 rfl rfl)
theorem dX3_hangs_135 : decode cX3_hangs 135 = .ok (.getfield 96, 3) := dk_180 0 96 (dk_at dksX3_hangs_5 18 rfl rfl)
theorem dX3_hangs_138 : decode cX3_hangs 138 = .ok (.bipush 8, 2) := dk_16 8 (dk_at dksX3_hangs_5 21 rfl rfl)
theorem dX3_hangs_140 : decode cX3_hangs 140 = .ok (.iload_n 3, 1) := dk_29 (dk_at dksX3_hangs_5 23 rfl rfl)
theorem dX3_hangs_141 : decode cX3_hangs 141 = .ok (.imul, 1) := dk_104 (dk_at dksX3_hangs_6 0 rfl rfl)
theorem dX3_hangs_142 : decode cX3_hangs 142 = .ok (.iload 4, 2) := dk_21 4 (dk_at dksX3_hangs_6 1 rfl rfl)
theorem dX3_hangs_144 : decode cX3_hangs 144 = .ok (.iadd, 1) := dk_96 (dk_at dksX3_hangs_6 3 rfl rfl)
theorem dX3_hangs_145 : decode cX3_hangs 145 = .ok (.iaload, 1) := dk_46 (dk_at dksX3_hangs_6 4 rfl rfl)
theorem dX3_hangs_146 : decode cX3_hangs 146 = .ok (.if_icmp .lt 6, 3) := dk_161 0 6 (dk_at dksX3_hangs_6 5 rfl rfl)
theorem dX3_hangs_149 : decode cX3_hangs 149 = .ok (.goto 10, 3) := dk_167 0 10 (dk_at dksX3_hangs_6 8 rfl rfl)
theorem dX3_hangs_152 : decode cX3_hangs 152 = .ok (.iload 5, 2) := dk_21 5 (dk_at dksX3_hangs_6 11 rfl rfl)
theorem dX3_hangs_154 : decode cX3_hangs 154 = .ok (.istore_n 3, 1) := dk_62 (dk_at dksX3_hangs_6 13 rfl rfl)
theorem dX3_hangs_155 : decode cX3_hangs 155 = .ok (.iload 6, 2) := dk_21 6 (dk_at dksX3_hangs_6 14 rfl rfl)
theorem dX3_hangs_157 : decode cX3_hangs 157 = .ok (.istore 4, 2) := dk_54 4 (dk_at dksX3_hangs_6 16 rfl rfl)
theorem dX3_hangs_159 : decode cX3_hangs 159 = .ok (.iinc 6 1, 3) := dk_132 6 1 (dk_at dksX3_hangs_6 18 rfl rfl)
theorem dX3_hangs_162 : decode cX3_hangs 162 = .ok (.goto (-142), 3) := dk_167 255 114 (dk_at dksX3_hangs_6 21 rfl rfl)
theorem dX3_hangs_165 : decode cX3_hangs 165 = .ok (.iinc 5 1, 3) := dk_132 5 1 (dk_at dksX3_hangs_7 0 rfl rfl)
theorem dX3_hangs_168 : decode cX3_hangs 168 = .ok (.goto (-160), 3) := dk_167 255 96 (dk_at dksX3_hangs_7 3 rfl rfl)
theorem dX3_hangs_171 : decode cX3_hangs 171 = .ok (.iload_n 3, 1) := dk_29 (dk_at dksX3_hangs_7 6 rfl rfl)
theorem dX3_hangs_172 : decode cX3_hangs 172 = .ok (.iconst (-1), 1) := dk_2 (dk_at dksX3_hangs_7 7 rfl rfl)
theorem dX3_hangs_173 : decode cX3_hangs 173 = .ok (.if_icmp .ne 5, 3) := dk_160 0 5 (dk_at dksX3_hangs_7 8 rfl rfl)
theorem dX3_hangs_176 : decode cX3_hangs 176 = .ok (.iconst 0, 1) := dk_3 (dk_at dksX3_hangs_7 11 rfl rfl)
theorem dX3_hangs_177 : decode cX3_hangs 177 = .ok (.ireturn, 1) := dk_172 (dk_at dksX3_hangs_7 12 rfl rfl)
theorem dX3_hangs_178 : decode cX3_hangs 178 = .ok (.aload_n 0, 1) := dk_42 (dk_at dksX3_hangs_7 13 rfl rfl)
theorem dX3_hangs_179 : decode cX3_hangs 179 = .ok (.iload_n 1, 1) := dk_27 (dk_at dksX3_hangs_7 14 rfl rfl)
theorem dX3_hangs_180 : decode cX3_hangs 180 = .ok (.iload_n 3, 1) := dk_29 (dk_at dksX3_hangs_7 15 rfl rfl)
theorem dX3_hangs_181 : decode cX3_hangs 181 = .ok (.iload 4, 2) := dk_21 4 (dk_at dksX3_hangs_7 16 rfl rfl)
theorem dX3_hangs_183 : decode cX3_hangs 183 = .ok (.invokevirtual 432, 3) := dk_182 1 176 (dk_at dksX3_hangs_7 18 rfl rfl)
theorem dX3_hangs_186 : decode cX3_hangs 186 = .ok (.istore 5, 2) := dk_54 5 (dk_at dksX3_hangs_7 21 rfl rfl)
theorem dX3_hangs_188 : decode cX3_hangs 188 = .ok (.iload 5, 2) := dk_21 5 (dk_at dksX3_hangs_8 0 rfl rfl)
theorem dX3_hangs_190 : decode cX3_hangs 190 = .ok (.iload 4, 2) := dk_21 4 (dk_at dksX3_hangs_8 2 rfl rfl)
theorem dX3_hangs_192 : decode cX3_hangs 192 = .ok (.if_icmp .ge 25, 3) := dk_162 0 25 (dk_at dksX3_hangs_8 4 rfl rfl)
theorem dX3_hangs_195 : decode cX3_hangs 195 = .ok (.aload_n 0, 1) := dk_42 (dk_at dksX3_hangs_8 7 rfl rfl)
theorem dX3_hangs_196 : decode cX3_hangs 196 = .ok (.getfield 129, 3) := dk_180 0 129 (dk_at dksX3_hangs_8 8 rfl rfl)
theorem dX3_hangs_199 : decode cX3_hangs 199 = .ok (.bipush 8, 2) := dk_16 8 (dk_at dksX3_hangs_8 11 rfl rfl)
theorem dX3_hangs_201 : decode cX3_hangs 201 = .ok (.iload_n 3, 1) := dk_29 (dk_at dksX3_hangs_8 13 rfl rfl)
theorem dX3_hangs_202 : decode cX3_hangs 202 = .ok (.imul, 1) := dk_104 (dk_at dksX3_hangs_8 14 rfl rfl)
theorem dX3_hangs_203 : decode cX3_hangs 203 = .ok (.iload 5, 2) := dk_21 5 (dk_at dksX3_hangs_8 15 rfl rfl)
theorem dX3_hangs_205 : decode cX3_hangs 205 = .ok (.iadd, 1) := dk_96 (dk_at dksX3_hangs_8 17 rfl rfl)
theorem dX3_hangs_206 : decode cX3_hangs 206 = .ok (.dup2, 1) := dk_92 (dk_at dksX3_hangs_8 18 rfl rfl)
theorem dX3_hangs_207 : decode cX3_hangs 207 = .ok (.iaload, 1) := dk_46 (dk_at dksX3_hangs_8 19 rfl rfl)
theorem dX3_hangs_208 : decode cX3_hangs 208 = .ok (.iconst 1, 1) := dk_4 (dk_at dksX3_hangs_8 20 rfl rfl)
theorem dX3_hangs_209 : decode cX3_hangs 209 = .ok (.iadd, 1) := dk_96 (dk_at dksX3_hangs_8 21 rfl rfl)
theorem dX3_hangs_210 : decode cX3_hangs 210 = .ok (.iastore, 1) := dk_79 (dk_at dksX3_hangs_8 22 rfl rfl)
theorem dX3_hangs_211 : decode cX3_hangs 211 = .ok (.iinc 5 1, 3) := dk_132 5 1 (dk_at dksX3_hangs_9 0 rfl rfl)
theorem dX3_hangs_214 : decode cX3_hangs 214 = .ok (.goto (-26), 3) := dk_167 255 230 (dk_at dksX3_hangs_9 3 rfl rfl)
theorem dX3_hangs_217 : decode cX3_hangs 217 = .ok (.iconst 1, 1) := dk_4 (dk_at dksX3_hangs_9 6 rfl rfl)
theorem dX3_hangs_218 : decode cX3_hangs 218 = .ok (.ireturn, 1) := dk_172 (dk_at dksX3_hangs_9 7 rfl rfl)
abbrev cX3_onFor : ByteArray := prog_14_method_88_code
def yX3_onFor : MethodName := ⟨RX3, "onFor", "(III)I"⟩
def dkwX3_onFor_2 : List UInt8 := [16, 8, 28, 104, 21, 4, 96, 46, 163, 0, 6, 21, 4, 172, 132, 4, 255, 167, 255, 197, 2, 172]
abbrev dktX3_onFor_2 : List UInt8 := dkwX3_onFor_2 ++ []
def dkwX3_onFor_1 : List UInt8 := [180, 0, 26, 7, 27, 104, 46, 160, 0, 31, 42, 180, 0, 26, 7, 27, 104, 5, 96, 46, 42, 180, 0, 99]
abbrev dktX3_onFor_1 : List UInt8 := dkwX3_onFor_1 ++ dktX3_onFor_2
def dkwX3_onFor_0 : List UInt8 := [29, 4, 100, 54, 4, 21, 4, 155, 0, 60, 42, 180, 0, 23, 16, 8, 28, 104, 21, 4, 96, 46, 42]
abbrev dktX3_onFor_0 : List UInt8 := dkwX3_onFor_0 ++ dktX3_onFor_1
theorem dksX3_onFor_0 : cX3_onFor.data.toList.drop 0 = dktX3_onFor_0 := by decide +kernel
theorem dksX3_onFor_1 : cX3_onFor.data.toList.drop 23 = dktX3_onFor_1 := dk_seg dksX3_onFor_0 23 rfl rfl
theorem dksX3_onFor_2 : cX3_onFor.data.toList.drop 47 = dktX3_onFor_2 := dk_seg dksX3_onFor_1 24 rfl rfl
theorem dX3_onFor_0 : decode cX3_onFor 0 = .ok (.iload_n 3, 1) := dk_29 (dk_at dksX3_onFor_0 0 rfl rfl)
theorem dX3_onFor_1 : decode cX3_onFor 1 = .ok (.iconst 1, 1) := dk_4 (dk_at dksX3_onFor_0 1 rfl rfl)
theorem dX3_onFor_2 : decode cX3_onFor 2 = .ok (.isub, 1) := dk_100 (dk_at dksX3_onFor_0 2 rfl rfl)
theorem dX3_onFor_3 : decode cX3_onFor 3 = .ok (.istore 4, 2) := dk_54 4 (dk_at dksX3_onFor_0 3 rfl rfl)
theorem dX3_onFor_5 : decode cX3_onFor 5 = .ok (.iload 4, 2) := dk_21 4 (dk_at dksX3_onFor_0 5 rfl rfl)
theorem dX3_onFor_7 : decode cX3_onFor 7 = .ok (.ifCond .lt 60, 3) := dk_155 0 60 (dk_at dksX3_onFor_0 7 rfl rfl)
theorem dX3_onFor_10 : decode cX3_onFor 10 = .ok (.aload_n 0, 1) := dk_42 (dk_at dksX3_onFor_0 10 rfl rfl)
theorem dX3_onFor_11 : decode cX3_onFor 11 = .ok (.getfield 23, 3) := dk_180 0 23 (dk_at dksX3_onFor_0 11 rfl rfl)
theorem dX3_onFor_14 : decode cX3_onFor 14 = .ok (.bipush 8, 2) := dk_16 8 (dk_at dksX3_onFor_0 14 rfl rfl)
theorem dX3_onFor_16 : decode cX3_onFor 16 = .ok (.iload_n 2, 1) := dk_28 (dk_at dksX3_onFor_0 16 rfl rfl)
theorem dX3_onFor_17 : decode cX3_onFor 17 = .ok (.imul, 1) := dk_104 (dk_at dksX3_onFor_0 17 rfl rfl)
theorem dX3_onFor_18 : decode cX3_onFor 18 = .ok (.iload 4, 2) := dk_21 4 (dk_at dksX3_onFor_0 18 rfl rfl)
theorem dX3_onFor_20 : decode cX3_onFor 20 = .ok (.iadd, 1) := dk_96 (dk_at dksX3_onFor_0 20 rfl rfl)
theorem dX3_onFor_21 : decode cX3_onFor 21 = .ok (.iaload, 1) := dk_46 (dk_at dksX3_onFor_0 21 rfl rfl)
theorem dX3_onFor_22 : decode cX3_onFor 22 = .ok (.aload_n 0, 1) := dk_42 (dk_at dksX3_onFor_0 22 rfl rfl)
theorem dX3_onFor_23 : decode cX3_onFor 23 = .ok (.getfield 26, 3) := dk_180 0 26 (dk_at dksX3_onFor_1 0 rfl rfl)
theorem dX3_onFor_26 : decode cX3_onFor 26 = .ok (.iconst 4, 1) := dk_7 (dk_at dksX3_onFor_1 3 rfl rfl)
theorem dX3_onFor_27 : decode cX3_onFor 27 = .ok (.iload_n 1, 1) := dk_27 (dk_at dksX3_onFor_1 4 rfl rfl)
theorem dX3_onFor_28 : decode cX3_onFor 28 = .ok (.imul, 1) := dk_104 (dk_at dksX3_onFor_1 5 rfl rfl)
theorem dX3_onFor_29 : decode cX3_onFor 29 = .ok (.iaload, 1) := dk_46 (dk_at dksX3_onFor_1 6 rfl rfl)
theorem dX3_onFor_30 : decode cX3_onFor 30 = .ok (.if_icmp .ne 31, 3) := dk_160 0 31 (dk_at dksX3_onFor_1 7 rfl rfl)
theorem dX3_onFor_33 : decode cX3_onFor 33 = .ok (.aload_n 0, 1) := dk_42 (dk_at dksX3_onFor_1 10 rfl rfl)
theorem dX3_onFor_34 : decode cX3_onFor 34 = .ok (.getfield 26, 3) := dk_180 0 26 (dk_at dksX3_onFor_1 11 rfl rfl)
theorem dX3_onFor_37 : decode cX3_onFor 37 = .ok (.iconst 4, 1) := dk_7 (dk_at dksX3_onFor_1 14 rfl rfl)
theorem dX3_onFor_38 : decode cX3_onFor 38 = .ok (.iload_n 1, 1) := dk_27 (dk_at dksX3_onFor_1 15 rfl rfl)
theorem dX3_onFor_39 : decode cX3_onFor 39 = .ok (.imul, 1) := dk_104 (dk_at dksX3_onFor_1 16 rfl rfl)
theorem dX3_onFor_40 : decode cX3_onFor 40 = .ok (.iconst 2, 1) := dk_5 (dk_at dksX3_onFor_1 17 rfl rfl)
theorem dX3_onFor_41 : decode cX3_onFor 41 = .ok (.iadd, 1) := dk_96 (dk_at dksX3_onFor_1 18 rfl rfl)
theorem dX3_onFor_42 : decode cX3_onFor 42 = .ok (.iaload, 1) := dk_46 (dk_at dksX3_onFor_1 19 rfl rfl)
theorem dX3_onFor_43 : decode cX3_onFor 43 = .ok (.aload_n 0, 1) := dk_42 (dk_at dksX3_onFor_1 20 rfl rfl)
theorem dX3_onFor_44 : decode cX3_onFor 44 = .ok (.getfield 99, 3) := dk_180 0 99 (dk_at dksX3_onFor_1 21 rfl rfl)
theorem dX3_onFor_47 : decode cX3_onFor 47 = .ok (.bipush 8, 2) := dk_16 8 (dk_at dksX3_onFor_2 0 rfl rfl)
theorem dX3_onFor_49 : decode cX3_onFor 49 = .ok (.iload_n 2, 1) := dk_28 (dk_at dksX3_onFor_2 2 rfl rfl)
theorem dX3_onFor_50 : decode cX3_onFor 50 = .ok (.imul, 1) := dk_104 (dk_at dksX3_onFor_2 3 rfl rfl)
theorem dX3_onFor_51 : decode cX3_onFor 51 = .ok (.iload 4, 2) := dk_21 4 (dk_at dksX3_onFor_2 4 rfl rfl)
theorem dX3_onFor_53 : decode cX3_onFor 53 = .ok (.iadd, 1) := dk_96 (dk_at dksX3_onFor_2 6 rfl rfl)
theorem dX3_onFor_54 : decode cX3_onFor 54 = .ok (.iaload, 1) := dk_46 (dk_at dksX3_onFor_2 7 rfl rfl)
theorem dX3_onFor_55 : decode cX3_onFor 55 = .ok (.if_icmp .gt 6, 3) := dk_163 0 6 (dk_at dksX3_onFor_2 8 rfl rfl)
theorem dX3_onFor_58 : decode cX3_onFor 58 = .ok (.iload 4, 2) := dk_21 4 (dk_at dksX3_onFor_2 11 rfl rfl)
theorem dX3_onFor_60 : decode cX3_onFor 60 = .ok (.ireturn, 1) := dk_172 (dk_at dksX3_onFor_2 13 rfl rfl)
theorem dX3_onFor_61 : decode cX3_onFor 61 = .ok (.iinc 4 (-1), 3) := dk_132 4 255 (dk_at dksX3_onFor_2 14 rfl rfl)
theorem dX3_onFor_64 : decode cX3_onFor 64 = .ok (.goto (-59), 3) := dk_167 255 197 (dk_at dksX3_onFor_2 17 rfl rfl)
theorem dX3_onFor_67 : decode cX3_onFor 67 = .ok (.iconst (-1), 1) := dk_2 (dk_at dksX3_onFor_2 20 rfl rfl)
theorem dX3_onFor_68 : decode cX3_onFor 68 = .ok (.ireturn, 1) := dk_172 (dk_at dksX3_onFor_2 21 rfl rfl)
abbrev cX3_isRoom : ByteArray := prog_14_method_89_code
def yX3_isRoom : MethodName := ⟨RX3, "isRoom", "(IIII)Z"⟩
def dkwX3_isRoom_1 : List UInt8 := [161, 0, 5, 3, 172, 132, 5, 1, 167, 255, 228, 4, 172]
abbrev dktX3_isRoom_1 : List UInt8 := dkwX3_isRoom_1 ++ []
def dkwX3_isRoom_0 : List UInt8 := [28, 54, 5, 21, 5, 29, 162, 0, 28, 42, 180, 0, 129, 16, 8, 27, 104, 21, 5, 96, 46, 21, 4]
abbrev dktX3_isRoom_0 : List UInt8 := dkwX3_isRoom_0 ++ dktX3_isRoom_1
theorem dksX3_isRoom_0 : cX3_isRoom.data.toList.drop 0 = dktX3_isRoom_0 := by decide +kernel
theorem dksX3_isRoom_1 : cX3_isRoom.data.toList.drop 23 = dktX3_isRoom_1 := dk_seg dksX3_isRoom_0 23 rfl rfl
theorem dX3_isRoom_0 : decode cX3_isRoom 0 = .ok (.iload_n 2, 1) := dk_28 (dk_at dksX3_isRoom_0 0 rfl rfl)
theorem dX3_isRoom_1 : decode cX3_isRoom 1 = .ok (.istore 5, 2) := dk_54 5 (dk_at dksX3_isRoom_0 1 rfl rfl)
theorem dX3_isRoom_3 : decode cX3_isRoom 3 = .ok (.iload 5, 2) := dk_21 5 (dk_at dksX3_isRoom_0 3 rfl rfl)
theorem dX3_isRoom_5 : decode cX3_isRoom 5 = .ok (.iload_n 3, 1) := dk_29 (dk_at dksX3_isRoom_0 5 rfl rfl)
theorem dX3_isRoom_6 : decode cX3_isRoom 6 = .ok (.if_icmp .ge 28, 3) := dk_162 0 28 (dk_at dksX3_isRoom_0 6 rfl rfl)
theorem dX3_isRoom_9 : decode cX3_isRoom 9 = .ok (.aload_n 0, 1) := dk_42 (dk_at dksX3_isRoom_0 9 rfl rfl)
theorem dX3_isRoom_10 : decode cX3_isRoom 10 = .ok (.getfield 129, 3) := dk_180 0 129 (dk_at dksX3_isRoom_0 10 rfl rfl)
theorem dX3_isRoom_13 : decode cX3_isRoom 13 = .ok (.bipush 8, 2) := dk_16 8 (dk_at dksX3_isRoom_0 13 rfl rfl)
theorem dX3_isRoom_15 : decode cX3_isRoom 15 = .ok (.iload_n 1, 1) := dk_27 (dk_at dksX3_isRoom_0 15 rfl rfl)
theorem dX3_isRoom_16 : decode cX3_isRoom 16 = .ok (.imul, 1) := dk_104 (dk_at dksX3_isRoom_0 16 rfl rfl)
theorem dX3_isRoom_17 : decode cX3_isRoom 17 = .ok (.iload 5, 2) := dk_21 5 (dk_at dksX3_isRoom_0 17 rfl rfl)
theorem dX3_isRoom_19 : decode cX3_isRoom 19 = .ok (.iadd, 1) := dk_96 (dk_at dksX3_isRoom_0 19 rfl rfl)
theorem dX3_isRoom_20 : decode cX3_isRoom 20 = .ok (.iaload, 1) := dk_46 (dk_at dksX3_isRoom_0 20 rfl rfl)
theorem dX3_isRoom_21 : decode cX3_isRoom 21 = .ok (.iload 4, 2) := dk_21 4 (dk_at dksX3_isRoom_0 21 rfl rfl)
theorem dX3_isRoom_23 : decode cX3_isRoom 23 = .ok (.if_icmp .lt 5, 3) := dk_161 0 5 (dk_at dksX3_isRoom_1 0 rfl rfl)
theorem dX3_isRoom_26 : decode cX3_isRoom 26 = .ok (.iconst 0, 1) := dk_3 (dk_at dksX3_isRoom_1 3 rfl rfl)
theorem dX3_isRoom_27 : decode cX3_isRoom 27 = .ok (.ireturn, 1) := dk_172 (dk_at dksX3_isRoom_1 4 rfl rfl)
theorem dX3_isRoom_28 : decode cX3_isRoom 28 = .ok (.iinc 5 1, 3) := dk_132 5 1 (dk_at dksX3_isRoom_1 5 rfl rfl)
theorem dX3_isRoom_31 : decode cX3_isRoom 31 = .ok (.goto (-28), 3) := dk_167 255 228 (dk_at dksX3_isRoom_1 8 rfl rfl)
theorem dX3_isRoom_34 : decode cX3_isRoom 34 = .ok (.iconst 1, 1) := dk_4 (dk_at dksX3_isRoom_1 11 rfl rfl)
theorem dX3_isRoom_35 : decode cX3_isRoom 35 = .ok (.ireturn, 1) := dk_172 (dk_at dksX3_isRoom_1 12 rfl rfl)
abbrev cX3_worth : ByteArray := prog_14_method_93_code
def yX3_worth : MethodName := ⟨RX3, "worth", "(I)I"⟩
def dkwX3_worth_0 : List UInt8 := [42, 3, 181, 0, 147, 42, 27, 182, 1, 146, 153, 0, 11, 42, 27, 182, 1, 186, 167, 0, 4, 3, 172]
abbrev dktX3_worth_0 : List UInt8 := dkwX3_worth_0 ++ []
theorem dksX3_worth_0 : cX3_worth.data.toList.drop 0 = dktX3_worth_0 := by decide +kernel
theorem dX3_worth_0 : decode cX3_worth 0 = .ok (.aload_n 0, 1) := dk_42 (dk_at dksX3_worth_0 0 rfl rfl)
theorem dX3_worth_1 : decode cX3_worth 1 = .ok (.iconst 0, 1) := dk_3 (dk_at dksX3_worth_0 1 rfl rfl)
theorem dX3_worth_2 : decode cX3_worth 2 = .ok (.putfield 147, 3) := dk_181 0 147 (dk_at dksX3_worth_0 2 rfl rfl)
theorem dX3_worth_5 : decode cX3_worth 5 = .ok (.aload_n 0, 1) := dk_42 (dk_at dksX3_worth_0 5 rfl rfl)
theorem dX3_worth_6 : decode cX3_worth 6 = .ok (.iload_n 1, 1) := dk_27 (dk_at dksX3_worth_0 6 rfl rfl)
theorem dX3_worth_7 : decode cX3_worth 7 = .ok (.invokevirtual 402, 3) := dk_182 1 146 (dk_at dksX3_worth_0 7 rfl rfl)
theorem dX3_worth_10 : decode cX3_worth 10 = .ok (.ifCond .eq 11, 3) := dk_153 0 11 (dk_at dksX3_worth_0 10 rfl rfl)
theorem dX3_worth_13 : decode cX3_worth 13 = .ok (.aload_n 0, 1) := dk_42 (dk_at dksX3_worth_0 13 rfl rfl)
theorem dX3_worth_14 : decode cX3_worth 14 = .ok (.iload_n 1, 1) := dk_27 (dk_at dksX3_worth_0 14 rfl rfl)
theorem dX3_worth_15 : decode cX3_worth 15 = .ok (.invokevirtual 442, 3) := dk_182 1 186 (dk_at dksX3_worth_0 15 rfl rfl)
theorem dX3_worth_18 : decode cX3_worth 18 = .ok (.goto 4, 3) := dk_167 0 4 (dk_at dksX3_worth_0 18 rfl rfl)
theorem dX3_worth_21 : decode cX3_worth 21 = .ok (.iconst 0, 1) := dk_3 (dk_at dksX3_worth_0 21 rfl rfl)
theorem dX3_worth_22 : decode cX3_worth 22 = .ok (.ireturn, 1) := dk_172 (dk_at dksX3_worth_0 22 rfl rfl)
abbrev cX3_worthOf : ByteArray := prog_14_method_92_code
def yX3_worthOf : MethodName := ⟨RX3, "worthOf", "(I)I"⟩
def dkwX3_worthOf_2 : List UInt8 := [100, 172]
abbrev dktX3_worthOf_2 : List UInt8 := dkwX3_worthOf_2 ++ []
def dkwX3_worthOf_1 : List UInt8 := [120, 128, 79, 42, 182, 1, 133, 62, 42, 180, 0, 78, 6, 92, 46, 4, 27, 120, 2, 130, 126, 79, 28, 29]
abbrev dktX3_worthOf_1 : List UInt8 := dkwX3_worthOf_1 ++ dktX3_worthOf_2
def dkwX3_worthOf_0 : List UInt8 := [42, 27, 182, 1, 100, 153, 0, 5, 3, 172, 42, 182, 1, 133, 61, 42, 180, 0, 78, 6, 92, 46, 4, 27]
abbrev dktX3_worthOf_0 : List UInt8 := dkwX3_worthOf_0 ++ dktX3_worthOf_1
theorem dksX3_worthOf_0 : cX3_worthOf.data.toList.drop 0 = dktX3_worthOf_0 := by decide +kernel
theorem dksX3_worthOf_1 : cX3_worthOf.data.toList.drop 24 = dktX3_worthOf_1 := dk_seg dksX3_worthOf_0 24 rfl rfl
theorem dksX3_worthOf_2 : cX3_worthOf.data.toList.drop 48 = dktX3_worthOf_2 := dk_seg dksX3_worthOf_1 24 rfl rfl
theorem dX3_worthOf_0 : decode cX3_worthOf 0 = .ok (.aload_n 0, 1) := dk_42 (dk_at dksX3_worthOf_0 0 rfl rfl)
theorem dX3_worthOf_1 : decode cX3_worthOf 1 = .ok (.iload_n 1, 1) := dk_27 (dk_at dksX3_worthOf_0 1 rfl rfl)
theorem dX3_worthOf_2 : decode cX3_worthOf 2 = .ok (.invokevirtual 356, 3) := dk_182 1 100 (dk_at dksX3_worthOf_0 2 rfl rfl)
theorem dX3_worthOf_5 : decode cX3_worthOf 5 = .ok (.ifCond .eq 5, 3) := dk_153 0 5 (dk_at dksX3_worthOf_0 5 rfl rfl)
theorem dX3_worthOf_8 : decode cX3_worthOf 8 = .ok (.iconst 0, 1) := dk_3 (dk_at dksX3_worthOf_0 8 rfl rfl)
theorem dX3_worthOf_9 : decode cX3_worthOf 9 = .ok (.ireturn, 1) := dk_172 (dk_at dksX3_worthOf_0 9 rfl rfl)
theorem dX3_worthOf_10 : decode cX3_worthOf 10 = .ok (.aload_n 0, 1) := dk_42 (dk_at dksX3_worthOf_0 10 rfl rfl)
theorem dX3_worthOf_11 : decode cX3_worthOf 11 = .ok (.invokevirtual 389, 3) := dk_182 1 133 (dk_at dksX3_worthOf_0 11 rfl rfl)
theorem dX3_worthOf_14 : decode cX3_worthOf 14 = .ok (.istore_n 2, 1) := dk_61 (dk_at dksX3_worthOf_0 14 rfl rfl)
theorem dX3_worthOf_15 : decode cX3_worthOf 15 = .ok (.aload_n 0, 1) := dk_42 (dk_at dksX3_worthOf_0 15 rfl rfl)
theorem dX3_worthOf_16 : decode cX3_worthOf 16 = .ok (.getfield 78, 3) := dk_180 0 78 (dk_at dksX3_worthOf_0 16 rfl rfl)
theorem dX3_worthOf_19 : decode cX3_worthOf 19 = .ok (.iconst 3, 1) := dk_6 (dk_at dksX3_worthOf_0 19 rfl rfl)
theorem dX3_worthOf_20 : decode cX3_worthOf 20 = .ok (.dup2, 1) := dk_92 (dk_at dksX3_worthOf_0 20 rfl rfl)
theorem dX3_worthOf_21 : decode cX3_worthOf 21 = .ok (.iaload, 1) := dk_46 (dk_at dksX3_worthOf_0 21 rfl rfl)
theorem dX3_worthOf_22 : decode cX3_worthOf 22 = .ok (.iconst 1, 1) := dk_4 (dk_at dksX3_worthOf_0 22 rfl rfl)
theorem dX3_worthOf_23 : decode cX3_worthOf 23 = .ok (.iload_n 1, 1) := dk_27 (dk_at dksX3_worthOf_0 23 rfl rfl)
theorem dX3_worthOf_24 : decode cX3_worthOf 24 = .ok (.ishl, 1) := dk_120 (dk_at dksX3_worthOf_1 0 rfl rfl)
theorem dX3_worthOf_25 : decode cX3_worthOf 25 = .ok (.ior, 1) := dk_128 (dk_at dksX3_worthOf_1 1 rfl rfl)
theorem dX3_worthOf_26 : decode cX3_worthOf 26 = .ok (.iastore, 1) := dk_79 (dk_at dksX3_worthOf_1 2 rfl rfl)
theorem dX3_worthOf_27 : decode cX3_worthOf 27 = .ok (.aload_n 0, 1) := dk_42 (dk_at dksX3_worthOf_1 3 rfl rfl)
theorem dX3_worthOf_28 : decode cX3_worthOf 28 = .ok (.invokevirtual 389, 3) := dk_182 1 133 (dk_at dksX3_worthOf_1 4 rfl rfl)
theorem dX3_worthOf_31 : decode cX3_worthOf 31 = .ok (.istore_n 3, 1) := dk_62 (dk_at dksX3_worthOf_1 7 rfl rfl)
theorem dX3_worthOf_32 : decode cX3_worthOf 32 = .ok (.aload_n 0, 1) := dk_42 (dk_at dksX3_worthOf_1 8 rfl rfl)
theorem dX3_worthOf_33 : decode cX3_worthOf 33 = .ok (.getfield 78, 3) := dk_180 0 78 (dk_at dksX3_worthOf_1 9 rfl rfl)
theorem dX3_worthOf_36 : decode cX3_worthOf 36 = .ok (.iconst 3, 1) := dk_6 (dk_at dksX3_worthOf_1 12 rfl rfl)
theorem dX3_worthOf_37 : decode cX3_worthOf 37 = .ok (.dup2, 1) := dk_92 (dk_at dksX3_worthOf_1 13 rfl rfl)
theorem dX3_worthOf_38 : decode cX3_worthOf 38 = .ok (.iaload, 1) := dk_46 (dk_at dksX3_worthOf_1 14 rfl rfl)
theorem dX3_worthOf_39 : decode cX3_worthOf 39 = .ok (.iconst 1, 1) := dk_4 (dk_at dksX3_worthOf_1 15 rfl rfl)
theorem dX3_worthOf_40 : decode cX3_worthOf 40 = .ok (.iload_n 1, 1) := dk_27 (dk_at dksX3_worthOf_1 16 rfl rfl)
theorem dX3_worthOf_41 : decode cX3_worthOf 41 = .ok (.ishl, 1) := dk_120 (dk_at dksX3_worthOf_1 17 rfl rfl)
theorem dX3_worthOf_42 : decode cX3_worthOf 42 = .ok (.iconst (-1), 1) := dk_2 (dk_at dksX3_worthOf_1 18 rfl rfl)
theorem dX3_worthOf_43 : decode cX3_worthOf 43 = .ok (.ixor, 1) := dk_130 (dk_at dksX3_worthOf_1 19 rfl rfl)
theorem dX3_worthOf_44 : decode cX3_worthOf 44 = .ok (.iand, 1) := dk_126 (dk_at dksX3_worthOf_1 20 rfl rfl)
theorem dX3_worthOf_45 : decode cX3_worthOf 45 = .ok (.iastore, 1) := dk_79 (dk_at dksX3_worthOf_1 21 rfl rfl)
theorem dX3_worthOf_46 : decode cX3_worthOf 46 = .ok (.iload_n 2, 1) := dk_28 (dk_at dksX3_worthOf_1 22 rfl rfl)
theorem dX3_worthOf_47 : decode cX3_worthOf 47 = .ok (.iload_n 3, 1) := dk_29 (dk_at dksX3_worthOf_1 23 rfl rfl)
theorem dX3_worthOf_48 : decode cX3_worthOf 48 = .ok (.isub, 1) := dk_100 (dk_at dksX3_worthOf_2 0 rfl rfl)
theorem dX3_worthOf_49 : decode cX3_worthOf 49 = .ok (.ireturn, 1) := dk_172 (dk_at dksX3_worthOf_2 1 rfl rfl)
abbrev cX3_vital : ByteArray := prog_14_method_94_code
def yX3_vital : MethodName := ⟨RX3, "vital", "()I"⟩
def dkwX3_vital_1 : List UInt8 := [158, 0, 9, 4, 28, 120, 167, 0, 4, 3, 128, 60, 132, 2, 1, 167, 255, 227, 27, 172]
abbrev dktX3_vital_1 : List UInt8 := dkwX3_vital_1 ++ []
def dkwX3_vital_0 : List UInt8 := [42, 3, 181, 0, 147, 3, 60, 3, 61, 28, 42, 180, 1, 63, 162, 0, 27, 27, 42, 28, 182, 1, 186]
abbrev dktX3_vital_0 : List UInt8 := dkwX3_vital_0 ++ dktX3_vital_1
theorem dksX3_vital_0 : cX3_vital.data.toList.drop 0 = dktX3_vital_0 := by decide +kernel
theorem dksX3_vital_1 : cX3_vital.data.toList.drop 23 = dktX3_vital_1 := dk_seg dksX3_vital_0 23 rfl rfl
theorem dX3_vital_0 : decode cX3_vital 0 = .ok (.aload_n 0, 1) := dk_42 (dk_at dksX3_vital_0 0 rfl rfl)
theorem dX3_vital_1 : decode cX3_vital 1 = .ok (.iconst 0, 1) := dk_3 (dk_at dksX3_vital_0 1 rfl rfl)
theorem dX3_vital_2 : decode cX3_vital 2 = .ok (.putfield 147, 3) := dk_181 0 147 (dk_at dksX3_vital_0 2 rfl rfl)
theorem dX3_vital_5 : decode cX3_vital 5 = .ok (.iconst 0, 1) := dk_3 (dk_at dksX3_vital_0 5 rfl rfl)
theorem dX3_vital_6 : decode cX3_vital 6 = .ok (.istore_n 1, 1) := dk_60 (dk_at dksX3_vital_0 6 rfl rfl)
theorem dX3_vital_7 : decode cX3_vital 7 = .ok (.iconst 0, 1) := dk_3 (dk_at dksX3_vital_0 7 rfl rfl)
theorem dX3_vital_8 : decode cX3_vital 8 = .ok (.istore_n 2, 1) := dk_61 (dk_at dksX3_vital_0 8 rfl rfl)
theorem dX3_vital_9 : decode cX3_vital 9 = .ok (.iload_n 2, 1) := dk_28 (dk_at dksX3_vital_0 9 rfl rfl)
theorem dX3_vital_10 : decode cX3_vital 10 = .ok (.aload_n 0, 1) := dk_42 (dk_at dksX3_vital_0 10 rfl rfl)
theorem dX3_vital_11 : decode cX3_vital 11 = .ok (.getfield 319, 3) := dk_180 1 63 (dk_at dksX3_vital_0 11 rfl rfl)
theorem dX3_vital_14 : decode cX3_vital 14 = .ok (.if_icmp .ge 27, 3) := dk_162 0 27 (dk_at dksX3_vital_0 14 rfl rfl)
theorem dX3_vital_17 : decode cX3_vital 17 = .ok (.iload_n 1, 1) := dk_27 (dk_at dksX3_vital_0 17 rfl rfl)
theorem dX3_vital_18 : decode cX3_vital 18 = .ok (.aload_n 0, 1) := dk_42 (dk_at dksX3_vital_0 18 rfl rfl)
theorem dX3_vital_19 : decode cX3_vital 19 = .ok (.iload_n 2, 1) := dk_28 (dk_at dksX3_vital_0 19 rfl rfl)
theorem dX3_vital_20 : decode cX3_vital 20 = .ok (.invokevirtual 442, 3) := dk_182 1 186 (dk_at dksX3_vital_0 20 rfl rfl)
theorem dX3_vital_23 : decode cX3_vital 23 = .ok (.ifCond .le 9, 3) := dk_158 0 9 (dk_at dksX3_vital_1 0 rfl rfl)
theorem dX3_vital_26 : decode cX3_vital 26 = .ok (.iconst 1, 1) := dk_4 (dk_at dksX3_vital_1 3 rfl rfl)
theorem dX3_vital_27 : decode cX3_vital 27 = .ok (.iload_n 2, 1) := dk_28 (dk_at dksX3_vital_1 4 rfl rfl)
theorem dX3_vital_28 : decode cX3_vital 28 = .ok (.ishl, 1) := dk_120 (dk_at dksX3_vital_1 5 rfl rfl)
theorem dX3_vital_29 : decode cX3_vital 29 = .ok (.goto 4, 3) := dk_167 0 4 (dk_at dksX3_vital_1 6 rfl rfl)
theorem dX3_vital_32 : decode cX3_vital 32 = .ok (.iconst 0, 1) := dk_3 (dk_at dksX3_vital_1 9 rfl rfl)
theorem dX3_vital_33 : decode cX3_vital 33 = .ok (.ior, 1) := dk_128 (dk_at dksX3_vital_1 10 rfl rfl)
theorem dX3_vital_34 : decode cX3_vital 34 = .ok (.istore_n 1, 1) := dk_60 (dk_at dksX3_vital_1 11 rfl rfl)
theorem dX3_vital_35 : decode cX3_vital 35 = .ok (.iinc 2 1, 3) := dk_132 2 1 (dk_at dksX3_vital_1 12 rfl rfl)
theorem dX3_vital_38 : decode cX3_vital 38 = .ok (.goto (-29), 3) := dk_167 255 227 (dk_at dksX3_vital_1 15 rfl rfl)
theorem dX3_vital_41 : decode cX3_vital 41 = .ok (.iload_n 1, 1) := dk_27 (dk_at dksX3_vital_1 18 rfl rfl)
theorem dX3_vital_42 : decode cX3_vital 42 = .ok (.ireturn, 1) := dk_172 (dk_at dksX3_vital_1 19 rfl rfl)
abbrev cX3_reach : ByteArray := prog_14_method_95_code
def yX3_reach : MethodName := ⟨RX3, "reach", "(II)I"⟩
def dkwX3_reach_3 : List UInt8 := [3, 128, 62, 132, 4, 1, 167, 255, 209, 29, 172]
abbrev dktX3_reach_3 : List UInt8 := dkwX3_reach_3 ++ []
def dkwX3_reach_2 : List UInt8 := [19, 1, 92, 162, 0, 21, 42, 180, 0, 114, 21, 4, 46, 28, 163, 0, 10, 4, 21, 4, 120, 167, 0, 4]
abbrev dktX3_reach_2 : List UInt8 := dkwX3_reach_2 ++ dktX3_reach_3
def dkwX3_reach_1 : List UInt8 := [3, 62, 3, 54, 4, 21, 4, 42, 180, 1, 57, 162, 0, 44, 29, 42, 180, 0, 114, 21, 4, 46]
abbrev dktX3_reach_1 : List UInt8 := dkwX3_reach_1 ++ dktX3_reach_2
def dkwX3_reach_0 : List UInt8 := [42, 3, 181, 0, 147, 42, 27, 182, 1, 152, 154, 0, 5, 3, 172, 42, 182, 1, 123, 42, 27, 182, 1, 117]
abbrev dktX3_reach_0 : List UInt8 := dkwX3_reach_0 ++ dktX3_reach_1
theorem dksX3_reach_0 : cX3_reach.data.toList.drop 0 = dktX3_reach_0 := by decide +kernel
theorem dksX3_reach_1 : cX3_reach.data.toList.drop 24 = dktX3_reach_1 := dk_seg dksX3_reach_0 24 rfl rfl
theorem dksX3_reach_2 : cX3_reach.data.toList.drop 46 = dktX3_reach_2 := dk_seg dksX3_reach_1 22 rfl rfl
theorem dksX3_reach_3 : cX3_reach.data.toList.drop 70 = dktX3_reach_3 := dk_seg dksX3_reach_2 24 rfl rfl
theorem dX3_reach_0 : decode cX3_reach 0 = .ok (.aload_n 0, 1) := dk_42 (dk_at dksX3_reach_0 0 rfl rfl)
theorem dX3_reach_1 : decode cX3_reach 1 = .ok (.iconst 0, 1) := dk_3 (dk_at dksX3_reach_0 1 rfl rfl)
theorem dX3_reach_2 : decode cX3_reach 2 = .ok (.putfield 147, 3) := dk_181 0 147 (dk_at dksX3_reach_0 2 rfl rfl)
theorem dX3_reach_5 : decode cX3_reach 5 = .ok (.aload_n 0, 1) := dk_42 (dk_at dksX3_reach_0 5 rfl rfl)
theorem dX3_reach_6 : decode cX3_reach 6 = .ok (.iload_n 1, 1) := dk_27 (dk_at dksX3_reach_0 6 rfl rfl)
theorem dX3_reach_7 : decode cX3_reach 7 = .ok (.invokevirtual 408, 3) := dk_182 1 152 (dk_at dksX3_reach_0 7 rfl rfl)
theorem dX3_reach_10 : decode cX3_reach 10 = .ok (.ifCond .ne 5, 3) := dk_154 0 5 (dk_at dksX3_reach_0 10 rfl rfl)
theorem dX3_reach_13 : decode cX3_reach 13 = .ok (.iconst 0, 1) := dk_3 (dk_at dksX3_reach_0 13 rfl rfl)
theorem dX3_reach_14 : decode cX3_reach 14 = .ok (.ireturn, 1) := dk_172 (dk_at dksX3_reach_0 14 rfl rfl)
theorem dX3_reach_15 : decode cX3_reach 15 = .ok (.aload_n 0, 1) := dk_42 (dk_at dksX3_reach_0 15 rfl rfl)
theorem dX3_reach_16 : decode cX3_reach 16 = .ok (.invokevirtual 379, 3) := dk_182 1 123 (dk_at dksX3_reach_0 16 rfl rfl)
theorem dX3_reach_19 : decode cX3_reach 19 = .ok (.aload_n 0, 1) := dk_42 (dk_at dksX3_reach_0 19 rfl rfl)
theorem dX3_reach_20 : decode cX3_reach 20 = .ok (.iload_n 1, 1) := dk_27 (dk_at dksX3_reach_0 20 rfl rfl)
theorem dX3_reach_21 : decode cX3_reach 21 = .ok (.invokevirtual 373, 3) := dk_182 1 117 (dk_at dksX3_reach_0 21 rfl rfl)
theorem dX3_reach_24 : decode cX3_reach 24 = .ok (.iconst 0, 1) := dk_3 (dk_at dksX3_reach_1 0 rfl rfl)
theorem dX3_reach_25 : decode cX3_reach 25 = .ok (.istore_n 3, 1) := dk_62 (dk_at dksX3_reach_1 1 rfl rfl)
theorem dX3_reach_26 : decode cX3_reach 26 = .ok (.iconst 0, 1) := dk_3 (dk_at dksX3_reach_1 2 rfl rfl)
theorem dX3_reach_27 : decode cX3_reach 27 = .ok (.istore 4, 2) := dk_54 4 (dk_at dksX3_reach_1 3 rfl rfl)
theorem dX3_reach_29 : decode cX3_reach 29 = .ok (.iload 4, 2) := dk_21 4 (dk_at dksX3_reach_1 5 rfl rfl)
theorem dX3_reach_31 : decode cX3_reach 31 = .ok (.aload_n 0, 1) := dk_42 (dk_at dksX3_reach_1 7 rfl rfl)
theorem dX3_reach_32 : decode cX3_reach 32 = .ok (.getfield 313, 3) := dk_180 1 57 (dk_at dksX3_reach_1 8 rfl rfl)
theorem dX3_reach_35 : decode cX3_reach 35 = .ok (.if_icmp .ge 44, 3) := dk_162 0 44 (dk_at dksX3_reach_1 11 rfl rfl)
theorem dX3_reach_38 : decode cX3_reach 38 = .ok (.iload_n 3, 1) := dk_29 (dk_at dksX3_reach_1 14 rfl rfl)
theorem dX3_reach_39 : decode cX3_reach 39 = .ok (.aload_n 0, 1) := dk_42 (dk_at dksX3_reach_1 15 rfl rfl)
theorem dX3_reach_40 : decode cX3_reach 40 = .ok (.getfield 114, 3) := dk_180 0 114 (dk_at dksX3_reach_1 16 rfl rfl)
theorem dX3_reach_43 : decode cX3_reach 43 = .ok (.iload 4, 2) := dk_21 4 (dk_at dksX3_reach_1 19 rfl rfl)
theorem dX3_reach_45 : decode cX3_reach 45 = .ok (.iaload, 1) := dk_46 (dk_at dksX3_reach_1 21 rfl rfl)
theorem dX3_reach_46 : decode cX3_reach 46 = .ok (.ldc_w 348, 3) := dk_19 1 92 (dk_at dksX3_reach_2 0 rfl rfl)
theorem dX3_reach_49 : decode cX3_reach 49 = .ok (.if_icmp .ge 21, 3) := dk_162 0 21 (dk_at dksX3_reach_2 3 rfl rfl)
theorem dX3_reach_52 : decode cX3_reach 52 = .ok (.aload_n 0, 1) := dk_42 (dk_at dksX3_reach_2 6 rfl rfl)
theorem dX3_reach_53 : decode cX3_reach 53 = .ok (.getfield 114, 3) := dk_180 0 114 (dk_at dksX3_reach_2 7 rfl rfl)
theorem dX3_reach_56 : decode cX3_reach 56 = .ok (.iload 4, 2) := dk_21 4 (dk_at dksX3_reach_2 10 rfl rfl)
theorem dX3_reach_58 : decode cX3_reach 58 = .ok (.iaload, 1) := dk_46 (dk_at dksX3_reach_2 12 rfl rfl)
theorem dX3_reach_59 : decode cX3_reach 59 = .ok (.iload_n 2, 1) := dk_28 (dk_at dksX3_reach_2 13 rfl rfl)
theorem dX3_reach_60 : decode cX3_reach 60 = .ok (.if_icmp .gt 10, 3) := dk_163 0 10 (dk_at dksX3_reach_2 14 rfl rfl)
theorem dX3_reach_63 : decode cX3_reach 63 = .ok (.iconst 1, 1) := dk_4 (dk_at dksX3_reach_2 17 rfl rfl)
theorem dX3_reach_64 : decode cX3_reach 64 = .ok (.iload 4, 2) := dk_21 4 (dk_at dksX3_reach_2 18 rfl rfl)
theorem dX3_reach_66 : decode cX3_reach 66 = .ok (.ishl, 1) := dk_120 (dk_at dksX3_reach_2 20 rfl rfl)
theorem dX3_reach_67 : decode cX3_reach 67 = .ok (.goto 4, 3) := dk_167 0 4 (dk_at dksX3_reach_2 21 rfl rfl)
theorem dX3_reach_70 : decode cX3_reach 70 = .ok (.iconst 0, 1) := dk_3 (dk_at dksX3_reach_3 0 rfl rfl)
theorem dX3_reach_71 : decode cX3_reach 71 = .ok (.ior, 1) := dk_128 (dk_at dksX3_reach_3 1 rfl rfl)
theorem dX3_reach_72 : decode cX3_reach 72 = .ok (.istore_n 3, 1) := dk_62 (dk_at dksX3_reach_3 2 rfl rfl)
theorem dX3_reach_73 : decode cX3_reach 73 = .ok (.iinc 4 1, 3) := dk_132 4 1 (dk_at dksX3_reach_3 3 rfl rfl)
theorem dX3_reach_76 : decode cX3_reach 76 = .ok (.goto (-47), 3) := dk_167 255 209 (dk_at dksX3_reach_3 6 rfl rfl)
theorem dX3_reach_79 : decode cX3_reach 79 = .ok (.iload_n 3, 1) := dk_29 (dk_at dksX3_reach_3 9 rfl rfl)
theorem dX3_reach_80 : decode cX3_reach 80 = .ok (.ireturn, 1) := dk_172 (dk_at dksX3_reach_3 10 rfl rfl)
abbrev cX3_late : ByteArray := prog_14_method_96_code
def yX3_late : MethodName := ⟨RX3, "late", "(I)I"⟩
def dkwX3_late_3 : List UInt8 := [54, 4, 132, 5, 1, 167, 255, 216, 42, 180, 0, 78, 16, 14, 27, 96, 28, 79, 21, 4, 172]
abbrev dktX3_late_3 : List UInt8 := dkwX3_late_3 ++ []
def dkwX3_late_2 : List UInt8 := [16, 14, 27, 96, 28, 21, 5, 96, 79, 42, 182, 1, 133, 29, 161, 0, 8, 21, 5, 167, 0, 5, 21, 4]
abbrev dktX3_late_2 : List UInt8 := dkwX3_late_2 ++ dktX3_late_3
def dkwX3_late_1 : List UInt8 := [61, 42, 182, 1, 133, 62, 3, 54, 4, 3, 54, 5, 21, 5, 16, 60, 163, 0, 39, 42, 180, 0, 78]
abbrev dktX3_late_1 : List UInt8 := dkwX3_late_1 ++ dktX3_late_2
def dkwX3_late_0 : List UInt8 := [42, 3, 181, 0, 147, 42, 27, 182, 1, 146, 154, 0, 5, 3, 172, 42, 180, 0, 78, 16, 14, 27, 96, 46]
abbrev dktX3_late_0 : List UInt8 := dkwX3_late_0 ++ dktX3_late_1
theorem dksX3_late_0 : cX3_late.data.toList.drop 0 = dktX3_late_0 := by decide +kernel
theorem dksX3_late_1 : cX3_late.data.toList.drop 24 = dktX3_late_1 := dk_seg dksX3_late_0 24 rfl rfl
theorem dksX3_late_2 : cX3_late.data.toList.drop 47 = dktX3_late_2 := dk_seg dksX3_late_1 23 rfl rfl
theorem dksX3_late_3 : cX3_late.data.toList.drop 71 = dktX3_late_3 := dk_seg dksX3_late_2 24 rfl rfl
theorem dX3_late_0 : decode cX3_late 0 = .ok (.aload_n 0, 1) := dk_42 (dk_at dksX3_late_0 0 rfl rfl)
theorem dX3_late_1 : decode cX3_late 1 = .ok (.iconst 0, 1) := dk_3 (dk_at dksX3_late_0 1 rfl rfl)
theorem dX3_late_2 : decode cX3_late 2 = .ok (.putfield 147, 3) := dk_181 0 147 (dk_at dksX3_late_0 2 rfl rfl)
theorem dX3_late_5 : decode cX3_late 5 = .ok (.aload_n 0, 1) := dk_42 (dk_at dksX3_late_0 5 rfl rfl)
theorem dX3_late_6 : decode cX3_late 6 = .ok (.iload_n 1, 1) := dk_27 (dk_at dksX3_late_0 6 rfl rfl)
theorem dX3_late_7 : decode cX3_late 7 = .ok (.invokevirtual 402, 3) := dk_182 1 146 (dk_at dksX3_late_0 7 rfl rfl)
theorem dX3_late_10 : decode cX3_late 10 = .ok (.ifCond .ne 5, 3) := dk_154 0 5 (dk_at dksX3_late_0 10 rfl rfl)
theorem dX3_late_13 : decode cX3_late 13 = .ok (.iconst 0, 1) := dk_3 (dk_at dksX3_late_0 13 rfl rfl)
theorem dX3_late_14 : decode cX3_late 14 = .ok (.ireturn, 1) := dk_172 (dk_at dksX3_late_0 14 rfl rfl)
theorem dX3_late_15 : decode cX3_late 15 = .ok (.aload_n 0, 1) := dk_42 (dk_at dksX3_late_0 15 rfl rfl)
theorem dX3_late_16 : decode cX3_late 16 = .ok (.getfield 78, 3) := dk_180 0 78 (dk_at dksX3_late_0 16 rfl rfl)
theorem dX3_late_19 : decode cX3_late 19 = .ok (.bipush 14, 2) := dk_16 14 (dk_at dksX3_late_0 19 rfl rfl)
theorem dX3_late_21 : decode cX3_late 21 = .ok (.iload_n 1, 1) := dk_27 (dk_at dksX3_late_0 21 rfl rfl)
theorem dX3_late_22 : decode cX3_late 22 = .ok (.iadd, 1) := dk_96 (dk_at dksX3_late_0 22 rfl rfl)
theorem dX3_late_23 : decode cX3_late 23 = .ok (.iaload, 1) := dk_46 (dk_at dksX3_late_0 23 rfl rfl)
theorem dX3_late_24 : decode cX3_late 24 = .ok (.istore_n 2, 1) := dk_61 (dk_at dksX3_late_1 0 rfl rfl)
theorem dX3_late_25 : decode cX3_late 25 = .ok (.aload_n 0, 1) := dk_42 (dk_at dksX3_late_1 1 rfl rfl)
theorem dX3_late_26 : decode cX3_late 26 = .ok (.invokevirtual 389, 3) := dk_182 1 133 (dk_at dksX3_late_1 2 rfl rfl)
theorem dX3_late_29 : decode cX3_late 29 = .ok (.istore_n 3, 1) := dk_62 (dk_at dksX3_late_1 5 rfl rfl)
theorem dX3_late_30 : decode cX3_late 30 = .ok (.iconst 0, 1) := dk_3 (dk_at dksX3_late_1 6 rfl rfl)
theorem dX3_late_31 : decode cX3_late 31 = .ok (.istore 4, 2) := dk_54 4 (dk_at dksX3_late_1 7 rfl rfl)
theorem dX3_late_33 : decode cX3_late 33 = .ok (.iconst 0, 1) := dk_3 (dk_at dksX3_late_1 9 rfl rfl)
theorem dX3_late_34 : decode cX3_late 34 = .ok (.istore 5, 2) := dk_54 5 (dk_at dksX3_late_1 10 rfl rfl)
theorem dX3_late_36 : decode cX3_late 36 = .ok (.iload 5, 2) := dk_21 5 (dk_at dksX3_late_1 12 rfl rfl)
theorem dX3_late_38 : decode cX3_late 38 = .ok (.bipush 60, 2) := dk_16 60 (dk_at dksX3_late_1 14 rfl rfl)
theorem dX3_late_40 : decode cX3_late 40 = .ok (.if_icmp .gt 39, 3) := dk_163 0 39 (dk_at dksX3_late_1 16 rfl rfl)
theorem dX3_late_43 : decode cX3_late 43 = .ok (.aload_n 0, 1) := dk_42 (dk_at dksX3_late_1 19 rfl rfl)
theorem dX3_late_44 : decode cX3_late 44 = .ok (.getfield 78, 3) := dk_180 0 78 (dk_at dksX3_late_1 20 rfl rfl)
theorem dX3_late_47 : decode cX3_late 47 = .ok (.bipush 14, 2) := dk_16 14 (dk_at dksX3_late_2 0 rfl rfl)
theorem dX3_late_49 : decode cX3_late 49 = .ok (.iload_n 1, 1) := dk_27 (dk_at dksX3_late_2 2 rfl rfl)
theorem dX3_late_50 : decode cX3_late 50 = .ok (.iadd, 1) := dk_96 (dk_at dksX3_late_2 3 rfl rfl)
theorem dX3_late_51 : decode cX3_late 51 = .ok (.iload_n 2, 1) := dk_28 (dk_at dksX3_late_2 4 rfl rfl)
theorem dX3_late_52 : decode cX3_late 52 = .ok (.iload 5, 2) := dk_21 5 (dk_at dksX3_late_2 5 rfl rfl)
theorem dX3_late_54 : decode cX3_late 54 = .ok (.iadd, 1) := dk_96 (dk_at dksX3_late_2 7 rfl rfl)
theorem dX3_late_55 : decode cX3_late 55 = .ok (.iastore, 1) := dk_79 (dk_at dksX3_late_2 8 rfl rfl)
theorem dX3_late_56 : decode cX3_late 56 = .ok (.aload_n 0, 1) := dk_42 (dk_at dksX3_late_2 9 rfl rfl)
theorem dX3_late_57 : decode cX3_late 57 = .ok (.invokevirtual 389, 3) := dk_182 1 133 (dk_at dksX3_late_2 10 rfl rfl)
theorem dX3_late_60 : decode cX3_late 60 = .ok (.iload_n 3, 1) := dk_29 (dk_at dksX3_late_2 13 rfl rfl)
theorem dX3_late_61 : decode cX3_late 61 = .ok (.if_icmp .lt 8, 3) := dk_161 0 8 (dk_at dksX3_late_2 14 rfl rfl)
theorem dX3_late_64 : decode cX3_late 64 = .ok (.iload 5, 2) := dk_21 5 (dk_at dksX3_late_2 17 rfl rfl)
theorem dX3_late_66 : decode cX3_late 66 = .ok (.goto 5, 3) := dk_167 0 5 (dk_at dksX3_late_2 19 rfl rfl)
theorem dX3_late_69 : decode cX3_late 69 = .ok (.iload 4, 2) := dk_21 4 (dk_at dksX3_late_2 22 rfl rfl)
theorem dX3_late_71 : decode cX3_late 71 = .ok (.istore 4, 2) := dk_54 4 (dk_at dksX3_late_3 0 rfl rfl)
theorem dX3_late_73 : decode cX3_late 73 = .ok (.iinc 5 1, 3) := dk_132 5 1 (dk_at dksX3_late_3 2 rfl rfl)
theorem dX3_late_76 : decode cX3_late 76 = .ok (.goto (-40), 3) := dk_167 255 216 (dk_at dksX3_late_3 5 rfl rfl)
theorem dX3_late_79 : decode cX3_late 79 = .ok (.aload_n 0, 1) := dk_42 (dk_at dksX3_late_3 8 rfl rfl)
theorem dX3_late_80 : decode cX3_late 80 = .ok (.getfield 78, 3) := dk_180 0 78 (dk_at dksX3_late_3 9 rfl rfl)
theorem dX3_late_83 : decode cX3_late 83 = .ok (.bipush 14, 2) := dk_16 14 (dk_at dksX3_late_3 12 rfl rfl)
theorem dX3_late_85 : decode cX3_late 85 = .ok (.iload_n 1, 1) := dk_27 (dk_at dksX3_late_3 14 rfl rfl)
theorem dX3_late_86 : decode cX3_late 86 = .ok (.iadd, 1) := dk_96 (dk_at dksX3_late_3 15 rfl rfl)
theorem dX3_late_87 : decode cX3_late 87 = .ok (.iload_n 2, 1) := dk_28 (dk_at dksX3_late_3 16 rfl rfl)
theorem dX3_late_88 : decode cX3_late 88 = .ok (.iastore, 1) := dk_79 (dk_at dksX3_late_3 17 rfl rfl)
theorem dX3_late_89 : decode cX3_late 89 = .ok (.iload 4, 2) := dk_21 4 (dk_at dksX3_late_3 18 rfl rfl)
theorem dX3_late_91 : decode cX3_late 91 = .ok (.ireturn, 1) := dk_172 (dk_at dksX3_late_3 20 rfl rfl)
abbrev cX3_best : ByteArray := prog_14_method_98_code
def yX3_best : MethodName := ⟨RX3, "best", "()I"⟩
def dkwX3_best_0 : List UInt8 := [42, 3, 181, 0, 147, 42, 3, 2, 42, 180, 1, 69, 4, 100, 182, 1, 189, 172]
abbrev dktX3_best_0 : List UInt8 := dkwX3_best_0 ++ []
theorem dksX3_best_0 : cX3_best.data.toList.drop 0 = dktX3_best_0 := by decide +kernel
theorem dX3_best_0 : decode cX3_best 0 = .ok (.aload_n 0, 1) := dk_42 (dk_at dksX3_best_0 0 rfl rfl)
theorem dX3_best_1 : decode cX3_best 1 = .ok (.iconst 0, 1) := dk_3 (dk_at dksX3_best_0 1 rfl rfl)
theorem dX3_best_2 : decode cX3_best 2 = .ok (.putfield 147, 3) := dk_181 0 147 (dk_at dksX3_best_0 2 rfl rfl)
theorem dX3_best_5 : decode cX3_best 5 = .ok (.aload_n 0, 1) := dk_42 (dk_at dksX3_best_0 5 rfl rfl)
theorem dX3_best_6 : decode cX3_best 6 = .ok (.iconst 0, 1) := dk_3 (dk_at dksX3_best_0 6 rfl rfl)
theorem dX3_best_7 : decode cX3_best 7 = .ok (.iconst (-1), 1) := dk_2 (dk_at dksX3_best_0 7 rfl rfl)
theorem dX3_best_8 : decode cX3_best 8 = .ok (.aload_n 0, 1) := dk_42 (dk_at dksX3_best_0 8 rfl rfl)
theorem dX3_best_9 : decode cX3_best 9 = .ok (.getfield 325, 3) := dk_180 1 69 (dk_at dksX3_best_0 9 rfl rfl)
theorem dX3_best_12 : decode cX3_best 12 = .ok (.iconst 1, 1) := dk_4 (dk_at dksX3_best_0 12 rfl rfl)
theorem dX3_best_13 : decode cX3_best 13 = .ok (.isub, 1) := dk_100 (dk_at dksX3_best_0 13 rfl rfl)
theorem dX3_best_14 : decode cX3_best 14 = .ok (.invokevirtual 445, 3) := dk_182 1 189 (dk_at dksX3_best_0 14 rfl rfl)
theorem dX3_best_17 : decode cX3_best 17 = .ok (.ireturn, 1) := dk_172 (dk_at dksX3_best_0 17 rfl rfl)
abbrev cX3_bestOf : ByteArray := prog_14_method_97_code
def yX3_bestOf : MethodName := ⟨RX3, "bestOf", "(III)I"⟩
def dkwX3_bestOf_3 : List UInt8 := [172]
abbrev dktX3_bestOf_3 : List UInt8 := dkwX3_bestOf_3 ++ []
def dkwX3_bestOf_2 : List UInt8 := [21, 7, 54, 5, 21, 8, 54, 6, 132, 7, 1, 167, 255, 215, 42, 180, 0, 78, 27, 21, 4, 79, 21, 5]
abbrev dktX3_bestOf_2 : List UInt8 := dkwX3_bestOf_2 ++ dktX3_bestOf_3
def dkwX3_bestOf_1 : List UInt8 := [180, 0, 78, 27, 21, 7, 79, 42, 182, 1, 133, 54, 8, 21, 8, 21, 6, 163, 0, 6, 167, 0, 11]
abbrev dktX3_bestOf_1 : List UInt8 := dkwX3_bestOf_1 ++ dktX3_bestOf_2
def dkwX3_bestOf_0 : List UInt8 := [42, 180, 0, 78, 27, 46, 54, 4, 28, 54, 5, 2, 54, 6, 28, 54, 7, 21, 7, 29, 163, 0, 41, 42]
abbrev dktX3_bestOf_0 : List UInt8 := dkwX3_bestOf_0 ++ dktX3_bestOf_1
theorem dksX3_bestOf_0 : cX3_bestOf.data.toList.drop 0 = dktX3_bestOf_0 := by decide +kernel
theorem dksX3_bestOf_1 : cX3_bestOf.data.toList.drop 24 = dktX3_bestOf_1 := dk_seg dksX3_bestOf_0 24 rfl rfl
theorem dksX3_bestOf_2 : cX3_bestOf.data.toList.drop 47 = dktX3_bestOf_2 := dk_seg dksX3_bestOf_1 23 rfl rfl
theorem dksX3_bestOf_3 : cX3_bestOf.data.toList.drop 71 = dktX3_bestOf_3 := dk_seg dksX3_bestOf_2 24 rfl rfl
theorem dX3_bestOf_0 : decode cX3_bestOf 0 = .ok (.aload_n 0, 1) := dk_42 (dk_at dksX3_bestOf_0 0 rfl rfl)
theorem dX3_bestOf_1 : decode cX3_bestOf 1 = .ok (.getfield 78, 3) := dk_180 0 78 (dk_at dksX3_bestOf_0 1 rfl rfl)
theorem dX3_bestOf_4 : decode cX3_bestOf 4 = .ok (.iload_n 1, 1) := dk_27 (dk_at dksX3_bestOf_0 4 rfl rfl)
theorem dX3_bestOf_5 : decode cX3_bestOf 5 = .ok (.iaload, 1) := dk_46 (dk_at dksX3_bestOf_0 5 rfl rfl)
theorem dX3_bestOf_6 : decode cX3_bestOf 6 = .ok (.istore 4, 2) := dk_54 4 (dk_at dksX3_bestOf_0 6 rfl rfl)
theorem dX3_bestOf_8 : decode cX3_bestOf 8 = .ok (.iload_n 2, 1) := dk_28 (dk_at dksX3_bestOf_0 8 rfl rfl)
theorem dX3_bestOf_9 : decode cX3_bestOf 9 = .ok (.istore 5, 2) := dk_54 5 (dk_at dksX3_bestOf_0 9 rfl rfl)
theorem dX3_bestOf_11 : decode cX3_bestOf 11 = .ok (.iconst (-1), 1) := dk_2 (dk_at dksX3_bestOf_0 11 rfl rfl)
theorem dX3_bestOf_12 : decode cX3_bestOf 12 = .ok (.istore 6, 2) := dk_54 6 (dk_at dksX3_bestOf_0 12 rfl rfl)
theorem dX3_bestOf_14 : decode cX3_bestOf 14 = .ok (.iload_n 2, 1) := dk_28 (dk_at dksX3_bestOf_0 14 rfl rfl)
theorem dX3_bestOf_15 : decode cX3_bestOf 15 = .ok (.istore 7, 2) := dk_54 7 (dk_at dksX3_bestOf_0 15 rfl rfl)
theorem dX3_bestOf_17 : decode cX3_bestOf 17 = .ok (.iload 7, 2) := dk_21 7 (dk_at dksX3_bestOf_0 17 rfl rfl)
theorem dX3_bestOf_19 : decode cX3_bestOf 19 = .ok (.iload_n 3, 1) := dk_29 (dk_at dksX3_bestOf_0 19 rfl rfl)
theorem dX3_bestOf_20 : decode cX3_bestOf 20 = .ok (.if_icmp .gt 41, 3) := dk_163 0 41 (dk_at dksX3_bestOf_0 20 rfl rfl)
theorem dX3_bestOf_23 : decode cX3_bestOf 23 = .ok (.aload_n 0, 1) := dk_42 (dk_at dksX3_bestOf_0 23 rfl rfl)
theorem dX3_bestOf_24 : decode cX3_bestOf 24 = .ok (.getfield 78, 3) := dk_180 0 78 (dk_at dksX3_bestOf_1 0 rfl rfl)
theorem dX3_bestOf_27 : decode cX3_bestOf 27 = .ok (.iload_n 1, 1) := dk_27 (dk_at dksX3_bestOf_1 3 rfl rfl)
theorem dX3_bestOf_28 : decode cX3_bestOf 28 = .ok (.iload 7, 2) := dk_21 7 (dk_at dksX3_bestOf_1 4 rfl rfl)
theorem dX3_bestOf_30 : decode cX3_bestOf 30 = .ok (.iastore, 1) := dk_79 (dk_at dksX3_bestOf_1 6 rfl rfl)
theorem dX3_bestOf_31 : decode cX3_bestOf 31 = .ok (.aload_n 0, 1) := dk_42 (dk_at dksX3_bestOf_1 7 rfl rfl)
theorem dX3_bestOf_32 : decode cX3_bestOf 32 = .ok (.invokevirtual 389, 3) := dk_182 1 133 (dk_at dksX3_bestOf_1 8 rfl rfl)
theorem dX3_bestOf_35 : decode cX3_bestOf 35 = .ok (.istore 8, 2) := dk_54 8 (dk_at dksX3_bestOf_1 11 rfl rfl)
theorem dX3_bestOf_37 : decode cX3_bestOf 37 = .ok (.iload 8, 2) := dk_21 8 (dk_at dksX3_bestOf_1 13 rfl rfl)
theorem dX3_bestOf_39 : decode cX3_bestOf 39 = .ok (.iload 6, 2) := dk_21 6 (dk_at dksX3_bestOf_1 15 rfl rfl)
theorem dX3_bestOf_41 : decode cX3_bestOf 41 = .ok (.if_icmp .gt 6, 3) := dk_163 0 6 (dk_at dksX3_bestOf_1 17 rfl rfl)
theorem dX3_bestOf_44 : decode cX3_bestOf 44 = .ok (.goto 11, 3) := dk_167 0 11 (dk_at dksX3_bestOf_1 20 rfl rfl)
theorem dX3_bestOf_47 : decode cX3_bestOf 47 = .ok (.iload 7, 2) := dk_21 7 (dk_at dksX3_bestOf_2 0 rfl rfl)
theorem dX3_bestOf_49 : decode cX3_bestOf 49 = .ok (.istore 5, 2) := dk_54 5 (dk_at dksX3_bestOf_2 2 rfl rfl)
theorem dX3_bestOf_51 : decode cX3_bestOf 51 = .ok (.iload 8, 2) := dk_21 8 (dk_at dksX3_bestOf_2 4 rfl rfl)
theorem dX3_bestOf_53 : decode cX3_bestOf 53 = .ok (.istore 6, 2) := dk_54 6 (dk_at dksX3_bestOf_2 6 rfl rfl)
theorem dX3_bestOf_55 : decode cX3_bestOf 55 = .ok (.iinc 7 1, 3) := dk_132 7 1 (dk_at dksX3_bestOf_2 8 rfl rfl)
theorem dX3_bestOf_58 : decode cX3_bestOf 58 = .ok (.goto (-41), 3) := dk_167 255 215 (dk_at dksX3_bestOf_2 11 rfl rfl)
theorem dX3_bestOf_61 : decode cX3_bestOf 61 = .ok (.aload_n 0, 1) := dk_42 (dk_at dksX3_bestOf_2 14 rfl rfl)
theorem dX3_bestOf_62 : decode cX3_bestOf 62 = .ok (.getfield 78, 3) := dk_180 0 78 (dk_at dksX3_bestOf_2 15 rfl rfl)
theorem dX3_bestOf_65 : decode cX3_bestOf 65 = .ok (.iload_n 1, 1) := dk_27 (dk_at dksX3_bestOf_2 18 rfl rfl)
theorem dX3_bestOf_66 : decode cX3_bestOf 66 = .ok (.iload 4, 2) := dk_21 4 (dk_at dksX3_bestOf_2 19 rfl rfl)
theorem dX3_bestOf_68 : decode cX3_bestOf 68 = .ok (.iastore, 1) := dk_79 (dk_at dksX3_bestOf_2 21 rfl rfl)
theorem dX3_bestOf_69 : decode cX3_bestOf 69 = .ok (.iload 5, 2) := dk_21 5 (dk_at dksX3_bestOf_2 22 rfl rfl)
theorem dX3_bestOf_71 : decode cX3_bestOf 71 = .ok (.ireturn, 1) := dk_172 (dk_at dksX3_bestOf_3 0 rfl rfl)
abbrev cX3_bright : ByteArray := prog_14_method_99_code
def yX3_bright : MethodName := ⟨RX3, "bright", "()I"⟩
def dkwX3_bright_0 : List UInt8 := [42, 3, 181, 0, 147, 42, 4, 3, 16, 7, 182, 1, 189, 172]
abbrev dktX3_bright_0 : List UInt8 := dkwX3_bright_0 ++ []
theorem dksX3_bright_0 : cX3_bright.data.toList.drop 0 = dktX3_bright_0 := by decide +kernel
theorem dX3_bright_0 : decode cX3_bright 0 = .ok (.aload_n 0, 1) := dk_42 (dk_at dksX3_bright_0 0 rfl rfl)
theorem dX3_bright_1 : decode cX3_bright 1 = .ok (.iconst 0, 1) := dk_3 (dk_at dksX3_bright_0 1 rfl rfl)
theorem dX3_bright_2 : decode cX3_bright 2 = .ok (.putfield 147, 3) := dk_181 0 147 (dk_at dksX3_bright_0 2 rfl rfl)
theorem dX3_bright_5 : decode cX3_bright 5 = .ok (.aload_n 0, 1) := dk_42 (dk_at dksX3_bright_0 5 rfl rfl)
theorem dX3_bright_6 : decode cX3_bright 6 = .ok (.iconst 1, 1) := dk_4 (dk_at dksX3_bright_0 6 rfl rfl)
theorem dX3_bright_7 : decode cX3_bright 7 = .ok (.iconst 0, 1) := dk_3 (dk_at dksX3_bright_0 7 rfl rfl)
theorem dX3_bright_8 : decode cX3_bright 8 = .ok (.bipush 7, 2) := dk_16 7 (dk_at dksX3_bright_0 8 rfl rfl)
theorem dX3_bright_10 : decode cX3_bright 10 = .ok (.invokevirtual 445, 3) := dk_182 1 189 (dk_at dksX3_bright_0 10 rfl rfl)
theorem dX3_bright_13 : decode cX3_bright 13 = .ok (.ireturn, 1) := dk_172 (dk_at dksX3_bright_0 13 rfl rfl)
abbrev cX3_hunter : ByteArray := prog_14_method_100_code
def yX3_hunter : MethodName := ⟨RX3, "hunter", "()I"⟩
def dkwX3_hunter_2 : List UInt8 := [167, 255, 223, 27, 172]
abbrev dktX3_hunter_2 : List UInt8 := dkwX3_hunter_2 ++ []
def dkwX3_hunter_1 : List UInt8 := [159, 0, 18, 42, 180, 0, 105, 28, 46, 42, 180, 0, 105, 27, 46, 164, 0, 5, 28, 60, 132, 2, 1]
abbrev dktX3_hunter_1 : List UInt8 := dkwX3_hunter_1 ++ dktX3_hunter_2
def dkwX3_hunter_0 : List UInt8 := [42, 3, 181, 0, 147, 42, 182, 1, 123, 2, 60, 3, 61, 28, 42, 180, 1, 63, 162, 0, 31, 27, 2]
abbrev dktX3_hunter_0 : List UInt8 := dkwX3_hunter_0 ++ dktX3_hunter_1
theorem dksX3_hunter_0 : cX3_hunter.data.toList.drop 0 = dktX3_hunter_0 := by decide +kernel
theorem dksX3_hunter_1 : cX3_hunter.data.toList.drop 23 = dktX3_hunter_1 := dk_seg dksX3_hunter_0 23 rfl rfl
theorem dksX3_hunter_2 : cX3_hunter.data.toList.drop 46 = dktX3_hunter_2 := dk_seg dksX3_hunter_1 23 rfl rfl
theorem dX3_hunter_0 : decode cX3_hunter 0 = .ok (.aload_n 0, 1) := dk_42 (dk_at dksX3_hunter_0 0 rfl rfl)
theorem dX3_hunter_1 : decode cX3_hunter 1 = .ok (.iconst 0, 1) := dk_3 (dk_at dksX3_hunter_0 1 rfl rfl)
theorem dX3_hunter_2 : decode cX3_hunter 2 = .ok (.putfield 147, 3) := dk_181 0 147 (dk_at dksX3_hunter_0 2 rfl rfl)
theorem dX3_hunter_5 : decode cX3_hunter 5 = .ok (.aload_n 0, 1) := dk_42 (dk_at dksX3_hunter_0 5 rfl rfl)
theorem dX3_hunter_6 : decode cX3_hunter 6 = .ok (.invokevirtual 379, 3) := dk_182 1 123 (dk_at dksX3_hunter_0 6 rfl rfl)
theorem dX3_hunter_9 : decode cX3_hunter 9 = .ok (.iconst (-1), 1) := dk_2 (dk_at dksX3_hunter_0 9 rfl rfl)
theorem dX3_hunter_10 : decode cX3_hunter 10 = .ok (.istore_n 1, 1) := dk_60 (dk_at dksX3_hunter_0 10 rfl rfl)
theorem dX3_hunter_11 : decode cX3_hunter 11 = .ok (.iconst 0, 1) := dk_3 (dk_at dksX3_hunter_0 11 rfl rfl)
theorem dX3_hunter_12 : decode cX3_hunter 12 = .ok (.istore_n 2, 1) := dk_61 (dk_at dksX3_hunter_0 12 rfl rfl)
theorem dX3_hunter_13 : decode cX3_hunter 13 = .ok (.iload_n 2, 1) := dk_28 (dk_at dksX3_hunter_0 13 rfl rfl)
theorem dX3_hunter_14 : decode cX3_hunter 14 = .ok (.aload_n 0, 1) := dk_42 (dk_at dksX3_hunter_0 14 rfl rfl)
theorem dX3_hunter_15 : decode cX3_hunter 15 = .ok (.getfield 319, 3) := dk_180 1 63 (dk_at dksX3_hunter_0 15 rfl rfl)
theorem dX3_hunter_18 : decode cX3_hunter 18 = .ok (.if_icmp .ge 31, 3) := dk_162 0 31 (dk_at dksX3_hunter_0 18 rfl rfl)
theorem dX3_hunter_21 : decode cX3_hunter 21 = .ok (.iload_n 1, 1) := dk_27 (dk_at dksX3_hunter_0 21 rfl rfl)
theorem dX3_hunter_22 : decode cX3_hunter 22 = .ok (.iconst (-1), 1) := dk_2 (dk_at dksX3_hunter_0 22 rfl rfl)
theorem dX3_hunter_23 : decode cX3_hunter 23 = .ok (.if_icmp .eq 18, 3) := dk_159 0 18 (dk_at dksX3_hunter_1 0 rfl rfl)
theorem dX3_hunter_26 : decode cX3_hunter 26 = .ok (.aload_n 0, 1) := dk_42 (dk_at dksX3_hunter_1 3 rfl rfl)
theorem dX3_hunter_27 : decode cX3_hunter 27 = .ok (.getfield 105, 3) := dk_180 0 105 (dk_at dksX3_hunter_1 4 rfl rfl)
theorem dX3_hunter_30 : decode cX3_hunter 30 = .ok (.iload_n 2, 1) := dk_28 (dk_at dksX3_hunter_1 7 rfl rfl)
theorem dX3_hunter_31 : decode cX3_hunter 31 = .ok (.iaload, 1) := dk_46 (dk_at dksX3_hunter_1 8 rfl rfl)
theorem dX3_hunter_32 : decode cX3_hunter 32 = .ok (.aload_n 0, 1) := dk_42 (dk_at dksX3_hunter_1 9 rfl rfl)
theorem dX3_hunter_33 : decode cX3_hunter 33 = .ok (.getfield 105, 3) := dk_180 0 105 (dk_at dksX3_hunter_1 10 rfl rfl)
theorem dX3_hunter_36 : decode cX3_hunter 36 = .ok (.iload_n 1, 1) := dk_27 (dk_at dksX3_hunter_1 13 rfl rfl)
theorem dX3_hunter_37 : decode cX3_hunter 37 = .ok (.iaload, 1) := dk_46 (dk_at dksX3_hunter_1 14 rfl rfl)
theorem dX3_hunter_38 : decode cX3_hunter 38 = .ok (.if_icmp .le 5, 3) := dk_164 0 5 (dk_at dksX3_hunter_1 15 rfl rfl)
theorem dX3_hunter_41 : decode cX3_hunter 41 = .ok (.iload_n 2, 1) := dk_28 (dk_at dksX3_hunter_1 18 rfl rfl)
theorem dX3_hunter_42 : decode cX3_hunter 42 = .ok (.istore_n 1, 1) := dk_60 (dk_at dksX3_hunter_1 19 rfl rfl)
theorem dX3_hunter_43 : decode cX3_hunter 43 = .ok (.iinc 2 1, 3) := dk_132 2 1 (dk_at dksX3_hunter_1 20 rfl rfl)
theorem dX3_hunter_46 : decode cX3_hunter 46 = .ok (.goto (-33), 3) := dk_167 255 223 (dk_at dksX3_hunter_2 0 rfl rfl)
theorem dX3_hunter_49 : decode cX3_hunter 49 = .ok (.iload_n 1, 1) := dk_27 (dk_at dksX3_hunter_2 3 rfl rfl)
theorem dX3_hunter_50 : decode cX3_hunter 50 = .ok (.ireturn, 1) := dk_172 (dk_at dksX3_hunter_2 4 rfl rfl)
abbrev cX3_see : ByteArray := prog_14_method_101_code
def yX3_see : MethodName := ⟨RX3, "see", "(III)I"⟩
def dkwX3_see_4 : List UInt8 := [180, 1, 82, 4, 96, 181, 1, 82, 42, 180, 1, 82, 172]
abbrev dktX3_see_4 : List UInt8 := dkwX3_see_4 ++ []
def dkwX3_see_3 : List UInt8 := [180, 1, 82, 104, 4, 96, 28, 79, 42, 180, 0, 132, 6, 42, 180, 1, 82, 104, 5, 96, 29, 79, 42, 89]
abbrev dktX3_see_3 : List UInt8 := dkwX3_see_3 ++ dktX3_see_4
def dkwX3_see_2 : List UInt8 := [42, 5, 182, 1, 155, 172, 42, 180, 0, 132, 6, 42, 180, 1, 82, 104, 27, 79, 42, 180, 0, 132, 6, 42]
abbrev dktX3_see_2 : List UInt8 := dkwX3_see_2 ++ dktX3_see_3
def dkwX3_see_1 : List UInt8 := [29, 2, 161, 0, 22, 29, 42, 180, 1, 57, 162, 0, 14, 28, 3, 17, 2, 88, 184, 1, 129, 154, 0, 9]
abbrev dktX3_see_1 : List UInt8 := dkwX3_see_1 ++ dktX3_see_2
def dkwX3_see_0 : List UInt8 := [42, 3, 181, 0, 147, 42, 27, 182, 1, 146, 154, 0, 5, 3, 172, 42, 180, 1, 82, 16, 8, 159, 0, 27]
abbrev dktX3_see_0 : List UInt8 := dkwX3_see_0 ++ dktX3_see_1
theorem dksX3_see_0 : cX3_see.data.toList.drop 0 = dktX3_see_0 := by decide +kernel
theorem dksX3_see_1 : cX3_see.data.toList.drop 24 = dktX3_see_1 := dk_seg dksX3_see_0 24 rfl rfl
theorem dksX3_see_2 : cX3_see.data.toList.drop 48 = dktX3_see_2 := dk_seg dksX3_see_1 24 rfl rfl
theorem dksX3_see_3 : cX3_see.data.toList.drop 72 = dktX3_see_3 := dk_seg dksX3_see_2 24 rfl rfl
theorem dksX3_see_4 : cX3_see.data.toList.drop 96 = dktX3_see_4 := dk_seg dksX3_see_3 24 rfl rfl
theorem dX3_see_0 : decode cX3_see 0 = .ok (.aload_n 0, 1) := dk_42 (dk_at dksX3_see_0 0 rfl rfl)
theorem dX3_see_1 : decode cX3_see 1 = .ok (.iconst 0, 1) := dk_3 (dk_at dksX3_see_0 1 rfl rfl)
theorem dX3_see_2 : decode cX3_see 2 = .ok (.putfield 147, 3) := dk_181 0 147 (dk_at dksX3_see_0 2 rfl rfl)
theorem dX3_see_5 : decode cX3_see 5 = .ok (.aload_n 0, 1) := dk_42 (dk_at dksX3_see_0 5 rfl rfl)
theorem dX3_see_6 : decode cX3_see 6 = .ok (.iload_n 1, 1) := dk_27 (dk_at dksX3_see_0 6 rfl rfl)
theorem dX3_see_7 : decode cX3_see 7 = .ok (.invokevirtual 402, 3) := dk_182 1 146 (dk_at dksX3_see_0 7 rfl rfl)
theorem dX3_see_10 : decode cX3_see 10 = .ok (.ifCond .ne 5, 3) := dk_154 0 5 (dk_at dksX3_see_0 10 rfl rfl)
theorem dX3_see_13 : decode cX3_see 13 = .ok (.iconst 0, 1) := dk_3 (dk_at dksX3_see_0 13 rfl rfl)
theorem dX3_see_14 : decode cX3_see 14 = .ok (.ireturn, 1) := dk_172 (dk_at dksX3_see_0 14 rfl rfl)
theorem dX3_see_15 : decode cX3_see 15 = .ok (.aload_n 0, 1) := dk_42 (dk_at dksX3_see_0 15 rfl rfl)
theorem dX3_see_16 : decode cX3_see 16 = .ok (.getfield 338, 3) := dk_180 1 82 (dk_at dksX3_see_0 16 rfl rfl)
theorem dX3_see_19 : decode cX3_see 19 = .ok (.bipush 8, 2) := dk_16 8 (dk_at dksX3_see_0 19 rfl rfl)
theorem dX3_see_21 : decode cX3_see 21 = .ok (.if_icmp .eq 27, 3) := dk_159 0 27 (dk_at dksX3_see_0 21 rfl rfl)
theorem dX3_see_24 : decode cX3_see 24 = .ok (.iload_n 3, 1) := dk_29 (dk_at dksX3_see_1 0 rfl rfl)
theorem dX3_see_25 : decode cX3_see 25 = .ok (.iconst (-1), 1) := dk_2 (dk_at dksX3_see_1 1 rfl rfl)
theorem dX3_see_26 : decode cX3_see 26 = .ok (.if_icmp .lt 22, 3) := dk_161 0 22 (dk_at dksX3_see_1 2 rfl rfl)
theorem dX3_see_29 : decode cX3_see 29 = .ok (.iload_n 3, 1) := dk_29 (dk_at dksX3_see_1 5 rfl rfl)
theorem dX3_see_30 : decode cX3_see 30 = .ok (.aload_n 0, 1) := dk_42 (dk_at dksX3_see_1 6 rfl rfl)
theorem dX3_see_31 : decode cX3_see 31 = .ok (.getfield 313, 3) := dk_180 1 57 (dk_at dksX3_see_1 7 rfl rfl)
theorem dX3_see_34 : decode cX3_see 34 = .ok (.if_icmp .ge 14, 3) := dk_162 0 14 (dk_at dksX3_see_1 10 rfl rfl)
theorem dX3_see_37 : decode cX3_see 37 = .ok (.iload_n 2, 1) := dk_28 (dk_at dksX3_see_1 13 rfl rfl)
theorem dX3_see_38 : decode cX3_see 38 = .ok (.iconst 0, 1) := dk_3 (dk_at dksX3_see_1 14 rfl rfl)
theorem dX3_see_39 : decode cX3_see 39 = .ok (.sipush 600, 3) := dk_17 2 88 (dk_at dksX3_see_1 15 rfl rfl)
theorem dX3_see_42 : decode cX3_see 42 = .ok (.invokestatic 385, 3) := dk_184 1 129 (dk_at dksX3_see_1 18 rfl rfl)
theorem dX3_see_45 : decode cX3_see 45 = .ok (.ifCond .ne 9, 3) := dk_154 0 9 (dk_at dksX3_see_1 21 rfl rfl)
theorem dX3_see_48 : decode cX3_see 48 = .ok (.aload_n 0, 1) := dk_42 (dk_at dksX3_see_2 0 rfl rfl)
theorem dX3_see_49 : decode cX3_see 49 = .ok (.iconst 2, 1) := dk_5 (dk_at dksX3_see_2 1 rfl rfl)
theorem dX3_see_50 : decode cX3_see 50 = .ok (.invokevirtual 411, 3) := dk_182 1 155 (dk_at dksX3_see_2 2 rfl rfl)
theorem dX3_see_53 : decode cX3_see 53 = .ok (.ireturn, 1) := dk_172 (dk_at dksX3_see_2 5 rfl rfl)
theorem dX3_see_54 : decode cX3_see 54 = .ok (.aload_n 0, 1) := dk_42 (dk_at dksX3_see_2 6 rfl rfl)
theorem dX3_see_55 : decode cX3_see 55 = .ok (.getfield 132, 3) := dk_180 0 132 (dk_at dksX3_see_2 7 rfl rfl)
theorem dX3_see_58 : decode cX3_see 58 = .ok (.iconst 3, 1) := dk_6 (dk_at dksX3_see_2 10 rfl rfl)
theorem dX3_see_59 : decode cX3_see 59 = .ok (.aload_n 0, 1) := dk_42 (dk_at dksX3_see_2 11 rfl rfl)
theorem dX3_see_60 : decode cX3_see 60 = .ok (.getfield 338, 3) := dk_180 1 82 (dk_at dksX3_see_2 12 rfl rfl)
theorem dX3_see_63 : decode cX3_see 63 = .ok (.imul, 1) := dk_104 (dk_at dksX3_see_2 15 rfl rfl)
theorem dX3_see_64 : decode cX3_see 64 = .ok (.iload_n 1, 1) := dk_27 (dk_at dksX3_see_2 16 rfl rfl)
theorem dX3_see_65 : decode cX3_see 65 = .ok (.iastore, 1) := dk_79 (dk_at dksX3_see_2 17 rfl rfl)
theorem dX3_see_66 : decode cX3_see 66 = .ok (.aload_n 0, 1) := dk_42 (dk_at dksX3_see_2 18 rfl rfl)
theorem dX3_see_67 : decode cX3_see 67 = .ok (.getfield 132, 3) := dk_180 0 132 (dk_at dksX3_see_2 19 rfl rfl)
theorem dX3_see_70 : decode cX3_see 70 = .ok (.iconst 3, 1) := dk_6 (dk_at dksX3_see_2 22 rfl rfl)
theorem dX3_see_71 : decode cX3_see 71 = .ok (.aload_n 0, 1) := dk_42 (dk_at dksX3_see_2 23 rfl rfl)
theorem dX3_see_72 : decode cX3_see 72 = .ok (.getfield 338, 3) := dk_180 1 82 (dk_at dksX3_see_3 0 rfl rfl)
theorem dX3_see_75 : decode cX3_see 75 = .ok (.imul, 1) := dk_104 (dk_at dksX3_see_3 3 rfl rfl)
theorem dX3_see_76 : decode cX3_see 76 = .ok (.iconst 1, 1) := dk_4 (dk_at dksX3_see_3 4 rfl rfl)
theorem dX3_see_77 : decode cX3_see 77 = .ok (.iadd, 1) := dk_96 (dk_at dksX3_see_3 5 rfl rfl)
theorem dX3_see_78 : decode cX3_see 78 = .ok (.iload_n 2, 1) := dk_28 (dk_at dksX3_see_3 6 rfl rfl)
theorem dX3_see_79 : decode cX3_see 79 = .ok (.iastore, 1) := dk_79 (dk_at dksX3_see_3 7 rfl rfl)
theorem dX3_see_80 : decode cX3_see 80 = .ok (.aload_n 0, 1) := dk_42 (dk_at dksX3_see_3 8 rfl rfl)
theorem dX3_see_81 : decode cX3_see 81 = .ok (.getfield 132, 3) := dk_180 0 132 (dk_at dksX3_see_3 9 rfl rfl)
theorem dX3_see_84 : decode cX3_see 84 = .ok (.iconst 3, 1) := dk_6 (dk_at dksX3_see_3 12 rfl rfl)
theorem dX3_see_85 : decode cX3_see 85 = .ok (.aload_n 0, 1) := dk_42 (dk_at dksX3_see_3 13 rfl rfl)
theorem dX3_see_86 : decode cX3_see 86 = .ok (.getfield 338, 3) := dk_180 1 82 (dk_at dksX3_see_3 14 rfl rfl)
theorem dX3_see_89 : decode cX3_see 89 = .ok (.imul, 1) := dk_104 (dk_at dksX3_see_3 17 rfl rfl)
theorem dX3_see_90 : decode cX3_see 90 = .ok (.iconst 2, 1) := dk_5 (dk_at dksX3_see_3 18 rfl rfl)
theorem dX3_see_91 : decode cX3_see 91 = .ok (.iadd, 1) := dk_96 (dk_at dksX3_see_3 19 rfl rfl)
theorem dX3_see_92 : decode cX3_see 92 = .ok (.iload_n 3, 1) := dk_29 (dk_at dksX3_see_3 20 rfl rfl)
theorem dX3_see_93 : decode cX3_see 93 = .ok (.iastore, 1) := dk_79 (dk_at dksX3_see_3 21 rfl rfl)
theorem dX3_see_94 : decode cX3_see 94 = .ok (.aload_n 0, 1) := dk_42 (dk_at dksX3_see_3 22 rfl rfl)
theorem dX3_see_95 : decode cX3_see 95 = .ok (.dup, 1) := dk_89 (dk_at dksX3_see_3 23 rfl rfl)
theorem dX3_see_96 : decode cX3_see 96 = .ok (.getfield 338, 3) := dk_180 1 82 (dk_at dksX3_see_4 0 rfl rfl)
theorem dX3_see_99 : decode cX3_see 99 = .ok (.iconst 1, 1) := dk_4 (dk_at dksX3_see_4 3 rfl rfl)
theorem dX3_see_100 : decode cX3_see 100 = .ok (.iadd, 1) := dk_96 (dk_at dksX3_see_4 4 rfl rfl)
theorem dX3_see_101 : decode cX3_see 101 = .ok (.putfield 338, 3) := dk_181 1 82 (dk_at dksX3_see_4 5 rfl rfl)
theorem dX3_see_104 : decode cX3_see 104 = .ok (.aload_n 0, 1) := dk_42 (dk_at dksX3_see_4 8 rfl rfl)
theorem dX3_see_105 : decode cX3_see 105 = .ok (.getfield 338, 3) := dk_180 1 82 (dk_at dksX3_see_4 9 rfl rfl)
theorem dX3_see_108 : decode cX3_see 108 = .ok (.ireturn, 1) := dk_172 (dk_at dksX3_see_4 12 rfl rfl)
abbrev cX3_forget : ByteArray := prog_14_method_102_code
def yX3_forget : MethodName := ⟨RX3, "forget", "()V"⟩
def dkwX3_forget_0 : List UInt8 := [42, 3, 181, 0, 147, 42, 3, 181, 1, 82, 177]
abbrev dktX3_forget_0 : List UInt8 := dkwX3_forget_0 ++ []
theorem dksX3_forget_0 : cX3_forget.data.toList.drop 0 = dktX3_forget_0 := by decide +kernel
theorem dX3_forget_0 : decode cX3_forget 0 = .ok (.aload_n 0, 1) := dk_42 (dk_at dksX3_forget_0 0 rfl rfl)
theorem dX3_forget_1 : decode cX3_forget 1 = .ok (.iconst 0, 1) := dk_3 (dk_at dksX3_forget_0 1 rfl rfl)
theorem dX3_forget_2 : decode cX3_forget 2 = .ok (.putfield 147, 3) := dk_181 0 147 (dk_at dksX3_forget_0 2 rfl rfl)
theorem dX3_forget_5 : decode cX3_forget 5 = .ok (.aload_n 0, 1) := dk_42 (dk_at dksX3_forget_0 5 rfl rfl)
theorem dX3_forget_6 : decode cX3_forget 6 = .ok (.iconst 0, 1) := dk_3 (dk_at dksX3_forget_0 6 rfl rfl)
theorem dX3_forget_7 : decode cX3_forget 7 = .ok (.putfield 338, 3) := dk_181 1 82 (dk_at dksX3_forget_0 7 rfl rfl)
theorem dX3_forget_10 : decode cX3_forget 10 = .ok (.return_, 1) := dk_177 (dk_at dksX3_forget_0 10 rfl rfl)
abbrev cX3_fits : ByteArray := prog_14_method_104_code
def yX3_fits : MethodName := ⟨RX3, "fits", "()I"⟩
def dkwX3_fits_2 : List UInt8 := [167, 0, 4, 3, 128, 61, 132, 3, 1, 167, 255, 217, 42, 180, 0, 78, 3, 27, 79, 28, 172]
abbrev dktX3_fits_2 : List UInt8 := dkwX3_fits_2 ++ []
def dkwX3_fits_1 : List UInt8 := [180, 1, 69, 161, 0, 8, 29, 7, 160, 0, 17, 42, 29, 182, 1, 192, 153, 0, 9, 4, 29, 120]
abbrev dktX3_fits_1 : List UInt8 := dkwX3_fits_1 ++ dktX3_fits_2
def dkwX3_fits_0 : List UInt8 := [42, 3, 181, 0, 147, 42, 180, 0, 78, 3, 46, 60, 3, 61, 3, 62, 29, 7, 163, 0, 40, 28, 29, 42]
abbrev dktX3_fits_0 : List UInt8 := dkwX3_fits_0 ++ dktX3_fits_1
theorem dksX3_fits_0 : cX3_fits.data.toList.drop 0 = dktX3_fits_0 := by decide +kernel
theorem dksX3_fits_1 : cX3_fits.data.toList.drop 24 = dktX3_fits_1 := dk_seg dksX3_fits_0 24 rfl rfl
theorem dksX3_fits_2 : cX3_fits.data.toList.drop 46 = dktX3_fits_2 := dk_seg dksX3_fits_1 22 rfl rfl
theorem dX3_fits_0 : decode cX3_fits 0 = .ok (.aload_n 0, 1) := dk_42 (dk_at dksX3_fits_0 0 rfl rfl)
theorem dX3_fits_1 : decode cX3_fits 1 = .ok (.iconst 0, 1) := dk_3 (dk_at dksX3_fits_0 1 rfl rfl)
theorem dX3_fits_2 : decode cX3_fits 2 = .ok (.putfield 147, 3) := dk_181 0 147 (dk_at dksX3_fits_0 2 rfl rfl)
theorem dX3_fits_5 : decode cX3_fits 5 = .ok (.aload_n 0, 1) := dk_42 (dk_at dksX3_fits_0 5 rfl rfl)
theorem dX3_fits_6 : decode cX3_fits 6 = .ok (.getfield 78, 3) := dk_180 0 78 (dk_at dksX3_fits_0 6 rfl rfl)
theorem dX3_fits_9 : decode cX3_fits 9 = .ok (.iconst 0, 1) := dk_3 (dk_at dksX3_fits_0 9 rfl rfl)
theorem dX3_fits_10 : decode cX3_fits 10 = .ok (.iaload, 1) := dk_46 (dk_at dksX3_fits_0 10 rfl rfl)
theorem dX3_fits_11 : decode cX3_fits 11 = .ok (.istore_n 1, 1) := dk_60 (dk_at dksX3_fits_0 11 rfl rfl)
theorem dX3_fits_12 : decode cX3_fits 12 = .ok (.iconst 0, 1) := dk_3 (dk_at dksX3_fits_0 12 rfl rfl)
theorem dX3_fits_13 : decode cX3_fits 13 = .ok (.istore_n 2, 1) := dk_61 (dk_at dksX3_fits_0 13 rfl rfl)
theorem dX3_fits_14 : decode cX3_fits 14 = .ok (.iconst 0, 1) := dk_3 (dk_at dksX3_fits_0 14 rfl rfl)
theorem dX3_fits_15 : decode cX3_fits 15 = .ok (.istore_n 3, 1) := dk_62 (dk_at dksX3_fits_0 15 rfl rfl)
theorem dX3_fits_16 : decode cX3_fits 16 = .ok (.iload_n 3, 1) := dk_29 (dk_at dksX3_fits_0 16 rfl rfl)
theorem dX3_fits_17 : decode cX3_fits 17 = .ok (.iconst 4, 1) := dk_7 (dk_at dksX3_fits_0 17 rfl rfl)
theorem dX3_fits_18 : decode cX3_fits 18 = .ok (.if_icmp .gt 40, 3) := dk_163 0 40 (dk_at dksX3_fits_0 18 rfl rfl)
theorem dX3_fits_21 : decode cX3_fits 21 = .ok (.iload_n 2, 1) := dk_28 (dk_at dksX3_fits_0 21 rfl rfl)
theorem dX3_fits_22 : decode cX3_fits 22 = .ok (.iload_n 3, 1) := dk_29 (dk_at dksX3_fits_0 22 rfl rfl)
theorem dX3_fits_23 : decode cX3_fits 23 = .ok (.aload_n 0, 1) := dk_42 (dk_at dksX3_fits_0 23 rfl rfl)
theorem dX3_fits_24 : decode cX3_fits 24 = .ok (.getfield 325, 3) := dk_180 1 69 (dk_at dksX3_fits_1 0 rfl rfl)
theorem dX3_fits_27 : decode cX3_fits 27 = .ok (.if_icmp .lt 8, 3) := dk_161 0 8 (dk_at dksX3_fits_1 3 rfl rfl)
theorem dX3_fits_30 : decode cX3_fits 30 = .ok (.iload_n 3, 1) := dk_29 (dk_at dksX3_fits_1 6 rfl rfl)
theorem dX3_fits_31 : decode cX3_fits 31 = .ok (.iconst 4, 1) := dk_7 (dk_at dksX3_fits_1 7 rfl rfl)
theorem dX3_fits_32 : decode cX3_fits 32 = .ok (.if_icmp .ne 17, 3) := dk_160 0 17 (dk_at dksX3_fits_1 8 rfl rfl)
theorem dX3_fits_35 : decode cX3_fits 35 = .ok (.aload_n 0, 1) := dk_42 (dk_at dksX3_fits_1 11 rfl rfl)
theorem dX3_fits_36 : decode cX3_fits 36 = .ok (.iload_n 3, 1) := dk_29 (dk_at dksX3_fits_1 12 rfl rfl)
theorem dX3_fits_37 : decode cX3_fits 37 = .ok (.invokevirtual 448, 3) := dk_182 1 192 (dk_at dksX3_fits_1 13 rfl rfl)
theorem dX3_fits_40 : decode cX3_fits 40 = .ok (.ifCond .eq 9, 3) := dk_153 0 9 (dk_at dksX3_fits_1 16 rfl rfl)
theorem dX3_fits_43 : decode cX3_fits 43 = .ok (.iconst 1, 1) := dk_4 (dk_at dksX3_fits_1 19 rfl rfl)
theorem dX3_fits_44 : decode cX3_fits 44 = .ok (.iload_n 3, 1) := dk_29 (dk_at dksX3_fits_1 20 rfl rfl)
theorem dX3_fits_45 : decode cX3_fits 45 = .ok (.ishl, 1) := dk_120 (dk_at dksX3_fits_1 21 rfl rfl)
theorem dX3_fits_46 : decode cX3_fits 46 = .ok (.goto 4, 3) := dk_167 0 4 (dk_at dksX3_fits_2 0 rfl rfl)
theorem dX3_fits_49 : decode cX3_fits 49 = .ok (.iconst 0, 1) := dk_3 (dk_at dksX3_fits_2 3 rfl rfl)
theorem dX3_fits_50 : decode cX3_fits 50 = .ok (.ior, 1) := dk_128 (dk_at dksX3_fits_2 4 rfl rfl)
theorem dX3_fits_51 : decode cX3_fits 51 = .ok (.istore_n 2, 1) := dk_61 (dk_at dksX3_fits_2 5 rfl rfl)
theorem dX3_fits_52 : decode cX3_fits 52 = .ok (.iinc 3 1, 3) := dk_132 3 1 (dk_at dksX3_fits_2 6 rfl rfl)
theorem dX3_fits_55 : decode cX3_fits 55 = .ok (.goto (-39), 3) := dk_167 255 217 (dk_at dksX3_fits_2 9 rfl rfl)
theorem dX3_fits_58 : decode cX3_fits 58 = .ok (.aload_n 0, 1) := dk_42 (dk_at dksX3_fits_2 12 rfl rfl)
theorem dX3_fits_59 : decode cX3_fits 59 = .ok (.getfield 78, 3) := dk_180 0 78 (dk_at dksX3_fits_2 13 rfl rfl)
theorem dX3_fits_62 : decode cX3_fits 62 = .ok (.iconst 0, 1) := dk_3 (dk_at dksX3_fits_2 16 rfl rfl)
theorem dX3_fits_63 : decode cX3_fits 63 = .ok (.iload_n 1, 1) := dk_27 (dk_at dksX3_fits_2 17 rfl rfl)
theorem dX3_fits_64 : decode cX3_fits 64 = .ok (.iastore, 1) := dk_79 (dk_at dksX3_fits_2 18 rfl rfl)
theorem dX3_fits_65 : decode cX3_fits 65 = .ok (.iload_n 2, 1) := dk_28 (dk_at dksX3_fits_2 19 rfl rfl)
theorem dX3_fits_66 : decode cX3_fits 66 = .ok (.ireturn, 1) := dk_172 (dk_at dksX3_fits_2 20 rfl rfl)
abbrev cX3_isSeen : ByteArray := prog_14_method_103_code
def yX3_isSeen : MethodName := ⟨RX3, "isSeen", "(I)Z"⟩
def dkwX3_isSeen_3 : List UInt8 := [167, 255, 208, 4, 172]
abbrev dktX3_isSeen_3 : List UInt8 := dkwX3_isSeen_3 ++ []
def dkwX3_isSeen_2 : List UInt8 := [46, 182, 1, 143, 42, 180, 0, 132, 6, 28, 104, 5, 96, 46, 159, 0, 5, 3, 172, 132, 2, 1]
abbrev dktX3_isSeen_2 : List UInt8 := dkwX3_isSeen_2 ++ dktX3_isSeen_3
def dkwX3_isSeen_1 : List UInt8 := [180, 1, 82, 162, 0, 46, 42, 42, 180, 0, 132, 6, 28, 104, 46, 42, 180, 0, 132, 6, 28, 104, 4, 96]
abbrev dktX3_isSeen_1 : List UInt8 := dkwX3_isSeen_1 ++ dktX3_isSeen_2
def dkwX3_isSeen_0 : List UInt8 := [42, 180, 0, 78, 3, 27, 7, 160, 0, 7, 2, 167, 0, 4, 27, 79, 42, 182, 1, 123, 3, 61, 28, 42]
abbrev dktX3_isSeen_0 : List UInt8 := dkwX3_isSeen_0 ++ dktX3_isSeen_1
theorem dksX3_isSeen_0 : cX3_isSeen.data.toList.drop 0 = dktX3_isSeen_0 := by decide +kernel
theorem dksX3_isSeen_1 : cX3_isSeen.data.toList.drop 24 = dktX3_isSeen_1 := dk_seg dksX3_isSeen_0 24 rfl rfl
theorem dksX3_isSeen_2 : cX3_isSeen.data.toList.drop 48 = dktX3_isSeen_2 := dk_seg dksX3_isSeen_1 24 rfl rfl
theorem dksX3_isSeen_3 : cX3_isSeen.data.toList.drop 70 = dktX3_isSeen_3 := dk_seg dksX3_isSeen_2 22 rfl rfl
theorem dX3_isSeen_0 : decode cX3_isSeen 0 = .ok (.aload_n 0, 1) := dk_42 (dk_at dksX3_isSeen_0 0 rfl rfl)
theorem dX3_isSeen_1 : decode cX3_isSeen 1 = .ok (.getfield 78, 3) := dk_180 0 78 (dk_at dksX3_isSeen_0 1 rfl rfl)
theorem dX3_isSeen_4 : decode cX3_isSeen 4 = .ok (.iconst 0, 1) := dk_3 (dk_at dksX3_isSeen_0 4 rfl rfl)
theorem dX3_isSeen_5 : decode cX3_isSeen 5 = .ok (.iload_n 1, 1) := dk_27 (dk_at dksX3_isSeen_0 5 rfl rfl)
theorem dX3_isSeen_6 : decode cX3_isSeen 6 = .ok (.iconst 4, 1) := dk_7 (dk_at dksX3_isSeen_0 6 rfl rfl)
theorem dX3_isSeen_7 : decode cX3_isSeen 7 = .ok (.if_icmp .ne 7, 3) := dk_160 0 7 (dk_at dksX3_isSeen_0 7 rfl rfl)
theorem dX3_isSeen_10 : decode cX3_isSeen 10 = .ok (.iconst (-1), 1) := dk_2 (dk_at dksX3_isSeen_0 10 rfl rfl)
theorem dX3_isSeen_11 : decode cX3_isSeen 11 = .ok (.goto 4, 3) := dk_167 0 4 (dk_at dksX3_isSeen_0 11 rfl rfl)
theorem dX3_isSeen_14 : decode cX3_isSeen 14 = .ok (.iload_n 1, 1) := dk_27 (dk_at dksX3_isSeen_0 14 rfl rfl)
theorem dX3_isSeen_15 : decode cX3_isSeen 15 = .ok (.iastore, 1) := dk_79 (dk_at dksX3_isSeen_0 15 rfl rfl)
theorem dX3_isSeen_16 : decode cX3_isSeen 16 = .ok (.aload_n 0, 1) := dk_42 (dk_at dksX3_isSeen_0 16 rfl rfl)
theorem dX3_isSeen_17 : decode cX3_isSeen 17 = .ok (.invokevirtual 379, 3) := dk_182 1 123 (dk_at dksX3_isSeen_0 17 rfl rfl)
theorem dX3_isSeen_20 : decode cX3_isSeen 20 = .ok (.iconst 0, 1) := dk_3 (dk_at dksX3_isSeen_0 20 rfl rfl)
theorem dX3_isSeen_21 : decode cX3_isSeen 21 = .ok (.istore_n 2, 1) := dk_61 (dk_at dksX3_isSeen_0 21 rfl rfl)
theorem dX3_isSeen_22 : decode cX3_isSeen 22 = .ok (.iload_n 2, 1) := dk_28 (dk_at dksX3_isSeen_0 22 rfl rfl)
theorem dX3_isSeen_23 : decode cX3_isSeen 23 = .ok (.aload_n 0, 1) := dk_42 (dk_at dksX3_isSeen_0 23 rfl rfl)
theorem dX3_isSeen_24 : decode cX3_isSeen 24 = .ok (.getfield 338, 3) := dk_180 1 82 (dk_at dksX3_isSeen_1 0 rfl rfl)
theorem dX3_isSeen_27 : decode cX3_isSeen 27 = .ok (.if_icmp .ge 46, 3) := dk_162 0 46 (dk_at dksX3_isSeen_1 3 rfl rfl)
theorem dX3_isSeen_30 : decode cX3_isSeen 30 = .ok (.aload_n 0, 1) := dk_42 (dk_at dksX3_isSeen_1 6 rfl rfl)
theorem dX3_isSeen_31 : decode cX3_isSeen 31 = .ok (.aload_n 0, 1) := dk_42 (dk_at dksX3_isSeen_1 7 rfl rfl)
theorem dX3_isSeen_32 : decode cX3_isSeen 32 = .ok (.getfield 132, 3) := dk_180 0 132 (dk_at dksX3_isSeen_1 8 rfl rfl)
theorem dX3_isSeen_35 : decode cX3_isSeen 35 = .ok (.iconst 3, 1) := dk_6 (dk_at dksX3_isSeen_1 11 rfl rfl)
theorem dX3_isSeen_36 : decode cX3_isSeen 36 = .ok (.iload_n 2, 1) := dk_28 (dk_at dksX3_isSeen_1 12 rfl rfl)
theorem dX3_isSeen_37 : decode cX3_isSeen 37 = .ok (.imul, 1) := dk_104 (dk_at dksX3_isSeen_1 13 rfl rfl)
theorem dX3_isSeen_38 : decode cX3_isSeen 38 = .ok (.iaload, 1) := dk_46 (dk_at dksX3_isSeen_1 14 rfl rfl)
theorem dX3_isSeen_39 : decode cX3_isSeen 39 = .ok (.aload_n 0, 1) := dk_42 (dk_at dksX3_isSeen_1 15 rfl rfl)
theorem dX3_isSeen_40 : decode cX3_isSeen 40 = .ok (.getfield 132, 3) := dk_180 0 132 (dk_at dksX3_isSeen_1 16 rfl rfl)
theorem dX3_isSeen_43 : decode cX3_isSeen 43 = .ok (.iconst 3, 1) := dk_6 (dk_at dksX3_isSeen_1 19 rfl rfl)
theorem dX3_isSeen_44 : decode cX3_isSeen 44 = .ok (.iload_n 2, 1) := dk_28 (dk_at dksX3_isSeen_1 20 rfl rfl)
theorem dX3_isSeen_45 : decode cX3_isSeen 45 = .ok (.imul, 1) := dk_104 (dk_at dksX3_isSeen_1 21 rfl rfl)
theorem dX3_isSeen_46 : decode cX3_isSeen 46 = .ok (.iconst 1, 1) := dk_4 (dk_at dksX3_isSeen_1 22 rfl rfl)
theorem dX3_isSeen_47 : decode cX3_isSeen 47 = .ok (.iadd, 1) := dk_96 (dk_at dksX3_isSeen_1 23 rfl rfl)
theorem dX3_isSeen_48 : decode cX3_isSeen 48 = .ok (.iaload, 1) := dk_46 (dk_at dksX3_isSeen_2 0 rfl rfl)
theorem dX3_isSeen_49 : decode cX3_isSeen 49 = .ok (.invokevirtual 399, 3) := dk_182 1 143 (dk_at dksX3_isSeen_2 1 rfl rfl)
theorem dX3_isSeen_52 : decode cX3_isSeen 52 = .ok (.aload_n 0, 1) := dk_42 (dk_at dksX3_isSeen_2 4 rfl rfl)
theorem dX3_isSeen_53 : decode cX3_isSeen 53 = .ok (.getfield 132, 3) := dk_180 0 132 (dk_at dksX3_isSeen_2 5 rfl rfl)
theorem dX3_isSeen_56 : decode cX3_isSeen 56 = .ok (.iconst 3, 1) := dk_6 (dk_at dksX3_isSeen_2 8 rfl rfl)
theorem dX3_isSeen_57 : decode cX3_isSeen 57 = .ok (.iload_n 2, 1) := dk_28 (dk_at dksX3_isSeen_2 9 rfl rfl)
theorem dX3_isSeen_58 : decode cX3_isSeen 58 = .ok (.imul, 1) := dk_104 (dk_at dksX3_isSeen_2 10 rfl rfl)
theorem dX3_isSeen_59 : decode cX3_isSeen 59 = .ok (.iconst 2, 1) := dk_5 (dk_at dksX3_isSeen_2 11 rfl rfl)
theorem dX3_isSeen_60 : decode cX3_isSeen 60 = .ok (.iadd, 1) := dk_96 (dk_at dksX3_isSeen_2 12 rfl rfl)
theorem dX3_isSeen_61 : decode cX3_isSeen 61 = .ok (.iaload, 1) := dk_46 (dk_at dksX3_isSeen_2 13 rfl rfl)
theorem dX3_isSeen_62 : decode cX3_isSeen 62 = .ok (.if_icmp .eq 5, 3) := dk_159 0 5 (dk_at dksX3_isSeen_2 14 rfl rfl)
theorem dX3_isSeen_65 : decode cX3_isSeen 65 = .ok (.iconst 0, 1) := dk_3 (dk_at dksX3_isSeen_2 17 rfl rfl)
theorem dX3_isSeen_66 : decode cX3_isSeen 66 = .ok (.ireturn, 1) := dk_172 (dk_at dksX3_isSeen_2 18 rfl rfl)
theorem dX3_isSeen_67 : decode cX3_isSeen 67 = .ok (.iinc 2 1, 3) := dk_132 2 1 (dk_at dksX3_isSeen_2 19 rfl rfl)
theorem dX3_isSeen_70 : decode cX3_isSeen 70 = .ok (.goto (-48), 3) := dk_167 255 208 (dk_at dksX3_isSeen_3 0 rfl rfl)
theorem dX3_isSeen_73 : decode cX3_isSeen 73 = .ok (.iconst 1, 1) := dk_4 (dk_at dksX3_isSeen_3 3 rfl rfl)
theorem dX3_isSeen_74 : decode cX3_isSeen 74 = .ok (.ireturn, 1) := dk_172 (dk_at dksX3_isSeen_3 4 rfl rfl)
abbrev cX3_watch : ByteArray := prog_14_method_105_code
def yX3_watch : MethodName := ⟨RX3, "watch", "(I)I"⟩
def dkwX3_watch_10 : List UInt8 := [21, 4, 172]
abbrev dktX3_watch_10 : List UInt8 := dkwX3_watch_10 ++ []
def dkwX3_watch_9 : List UInt8 := [180, 0, 135, 21, 4, 46, 104, 29, 184, 1, 195, 162, 0, 7, 21, 5, 54, 4, 132, 5, 1, 167, 255, 205]
abbrev dktX3_watch_9 : List UInt8 := dkwX3_watch_9 ++ dktX3_watch_10
def dkwX3_watch_8 : List UInt8 := [162, 0, 48, 21, 4, 2, 159, 0, 32, 5, 42, 180, 0, 135, 21, 5, 46, 104, 29, 184, 1, 195, 5, 42]
abbrev dktX3_watch_8 : List UInt8 := dkwX3_watch_8 ++ dktX3_watch_9
def dkwX3_watch_7 : List UInt8 := [167, 255, 134, 42, 180, 0, 78, 3, 28, 79, 2, 54, 4, 3, 54, 5, 21, 5, 42, 180, 1, 57]
abbrev dktX3_watch_7 : List UInt8 := dkwX3_watch_7 ++ dktX3_watch_8
def dkwX3_watch_6 : List UInt8 := [92, 46, 21, 6, 153, 0, 7, 4, 167, 0, 4, 3, 96, 79, 132, 5, 1, 167, 255, 179, 132, 4, 1]
abbrev dktX3_watch_6 : List UInt8 := dkwX3_watch_6 ++ dktX3_watch_7
def dkwX3_watch_5 : List UInt8 := [21, 5, 160, 0, 7, 4, 167, 0, 4, 3, 54, 6, 132, 7, 1, 167, 255, 220, 42, 180, 0, 135, 21, 5]
abbrev dktX3_watch_5 : List UInt8 := dkwX3_watch_5 ++ dktX3_watch_6
def dkwX3_watch_4 : List UInt8 := [3, 54, 7, 21, 7, 42, 180, 1, 63, 162, 0, 33, 21, 6, 154, 0, 15, 42, 21, 7, 27, 182, 1, 143]
abbrev dktX3_watch_4 : List UInt8 := dkwX3_watch_4 ++ dktX3_watch_5
def dkwX3_watch_3 : List UInt8 := [154, 0, 6, 167, 0, 89, 132, 3, 1, 3, 54, 5, 21, 5, 42, 180, 1, 57, 162, 0, 74, 3, 54, 6]
abbrev dktX3_watch_3 : List UInt8 := dkwX3_watch_3 ++ dktX3_watch_4
def dkwX3_watch_2 : List UInt8 := [163, 0, 122, 21, 4, 42, 180, 1, 69, 161, 0, 9, 21, 4, 7, 160, 0, 101, 42, 21, 4, 182, 1, 192]
abbrev dktX3_watch_2 : List UInt8 := dkwX3_watch_2 ++ dktX3_watch_3
def dkwX3_watch_1 : List UInt8 := [162, 0, 17, 42, 180, 0, 135, 21, 4, 3, 79, 132, 4, 1, 167, 255, 236, 3, 54, 4, 21, 4, 7]
abbrev dktX3_watch_1 : List UInt8 := dkwX3_watch_1 ++ dktX3_watch_2
def dkwX3_watch_0 : List UInt8 := [42, 3, 181, 0, 147, 42, 180, 0, 78, 3, 46, 61, 3, 62, 3, 54, 4, 21, 4, 42, 180, 1, 57]
abbrev dktX3_watch_0 : List UInt8 := dkwX3_watch_0 ++ dktX3_watch_1
theorem dksX3_watch_0 : cX3_watch.data.toList.drop 0 = dktX3_watch_0 := by decide +kernel
theorem dksX3_watch_1 : cX3_watch.data.toList.drop 23 = dktX3_watch_1 := dk_seg dksX3_watch_0 23 rfl rfl
theorem dksX3_watch_2 : cX3_watch.data.toList.drop 46 = dktX3_watch_2 := dk_seg dksX3_watch_1 23 rfl rfl
theorem dksX3_watch_3 : cX3_watch.data.toList.drop 70 = dktX3_watch_3 := dk_seg dksX3_watch_2 24 rfl rfl
theorem dksX3_watch_4 : cX3_watch.data.toList.drop 94 = dktX3_watch_4 := dk_seg dksX3_watch_3 24 rfl rfl
theorem dksX3_watch_5 : cX3_watch.data.toList.drop 118 = dktX3_watch_5 := dk_seg dksX3_watch_4 24 rfl rfl
theorem dksX3_watch_6 : cX3_watch.data.toList.drop 142 = dktX3_watch_6 := dk_seg dksX3_watch_5 24 rfl rfl
theorem dksX3_watch_7 : cX3_watch.data.toList.drop 165 = dktX3_watch_7 := dk_seg dksX3_watch_6 23 rfl rfl
theorem dksX3_watch_8 : cX3_watch.data.toList.drop 187 = dktX3_watch_8 := dk_seg dksX3_watch_7 22 rfl rfl
theorem dksX3_watch_9 : cX3_watch.data.toList.drop 211 = dktX3_watch_9 := dk_seg dksX3_watch_8 24 rfl rfl
theorem dksX3_watch_10 : cX3_watch.data.toList.drop 235 = dktX3_watch_10 := dk_seg dksX3_watch_9 24 rfl rfl
theorem dX3_watch_0 : decode cX3_watch 0 = .ok (.aload_n 0, 1) := dk_42 (dk_at dksX3_watch_0 0 rfl rfl)
theorem dX3_watch_1 : decode cX3_watch 1 = .ok (.iconst 0, 1) := dk_3 (dk_at dksX3_watch_0 1 rfl rfl)
theorem dX3_watch_2 : decode cX3_watch 2 = .ok (.putfield 147, 3) := dk_181 0 147 (dk_at dksX3_watch_0 2 rfl rfl)
theorem dX3_watch_5 : decode cX3_watch 5 = .ok (.aload_n 0, 1) := dk_42 (dk_at dksX3_watch_0 5 rfl rfl)
theorem dX3_watch_6 : decode cX3_watch 6 = .ok (.getfield 78, 3) := dk_180 0 78 (dk_at dksX3_watch_0 6 rfl rfl)
theorem dX3_watch_9 : decode cX3_watch 9 = .ok (.iconst 0, 1) := dk_3 (dk_at dksX3_watch_0 9 rfl rfl)
theorem dX3_watch_10 : decode cX3_watch 10 = .ok (.iaload, 1) := dk_46 (dk_at dksX3_watch_0 10 rfl rfl)
theorem dX3_watch_11 : decode cX3_watch 11 = .ok (.istore_n 2, 1) := dk_61 (dk_at dksX3_watch_0 11 rfl rfl)
theorem dX3_watch_12 : decode cX3_watch 12 = .ok (.iconst 0, 1) := dk_3 (dk_at dksX3_watch_0 12 rfl rfl)
theorem dX3_watch_13 : decode cX3_watch 13 = .ok (.istore_n 3, 1) := dk_62 (dk_at dksX3_watch_0 13 rfl rfl)
theorem dX3_watch_14 : decode cX3_watch 14 = .ok (.iconst 0, 1) := dk_3 (dk_at dksX3_watch_0 14 rfl rfl)
theorem dX3_watch_15 : decode cX3_watch 15 = .ok (.istore 4, 2) := dk_54 4 (dk_at dksX3_watch_0 15 rfl rfl)
theorem dX3_watch_17 : decode cX3_watch 17 = .ok (.iload 4, 2) := dk_21 4 (dk_at dksX3_watch_0 17 rfl rfl)
theorem dX3_watch_19 : decode cX3_watch 19 = .ok (.aload_n 0, 1) := dk_42 (dk_at dksX3_watch_0 19 rfl rfl)
theorem dX3_watch_20 : decode cX3_watch 20 = .ok (.getfield 313, 3) := dk_180 1 57 (dk_at dksX3_watch_0 20 rfl rfl)
theorem dX3_watch_23 : decode cX3_watch 23 = .ok (.if_icmp .ge 17, 3) := dk_162 0 17 (dk_at dksX3_watch_1 0 rfl rfl)
theorem dX3_watch_26 : decode cX3_watch 26 = .ok (.aload_n 0, 1) := dk_42 (dk_at dksX3_watch_1 3 rfl rfl)
theorem dX3_watch_27 : decode cX3_watch 27 = .ok (.getfield 135, 3) := dk_180 0 135 (dk_at dksX3_watch_1 4 rfl rfl)
theorem dX3_watch_30 : decode cX3_watch 30 = .ok (.iload 4, 2) := dk_21 4 (dk_at dksX3_watch_1 7 rfl rfl)
theorem dX3_watch_32 : decode cX3_watch 32 = .ok (.iconst 0, 1) := dk_3 (dk_at dksX3_watch_1 9 rfl rfl)
theorem dX3_watch_33 : decode cX3_watch 33 = .ok (.iastore, 1) := dk_79 (dk_at dksX3_watch_1 10 rfl rfl)
theorem dX3_watch_34 : decode cX3_watch 34 = .ok (.iinc 4 1, 3) := dk_132 4 1 (dk_at dksX3_watch_1 11 rfl rfl)
theorem dX3_watch_37 : decode cX3_watch 37 = .ok (.goto (-20), 3) := dk_167 255 236 (dk_at dksX3_watch_1 14 rfl rfl)
theorem dX3_watch_40 : decode cX3_watch 40 = .ok (.iconst 0, 1) := dk_3 (dk_at dksX3_watch_1 17 rfl rfl)
theorem dX3_watch_41 : decode cX3_watch 41 = .ok (.istore 4, 2) := dk_54 4 (dk_at dksX3_watch_1 18 rfl rfl)
theorem dX3_watch_43 : decode cX3_watch 43 = .ok (.iload 4, 2) := dk_21 4 (dk_at dksX3_watch_1 20 rfl rfl)
theorem dX3_watch_45 : decode cX3_watch 45 = .ok (.iconst 4, 1) := dk_7 (dk_at dksX3_watch_1 22 rfl rfl)
theorem dX3_watch_46 : decode cX3_watch 46 = .ok (.if_icmp .gt 122, 3) := dk_163 0 122 (dk_at dksX3_watch_2 0 rfl rfl)
theorem dX3_watch_49 : decode cX3_watch 49 = .ok (.iload 4, 2) := dk_21 4 (dk_at dksX3_watch_2 3 rfl rfl)
theorem dX3_watch_51 : decode cX3_watch 51 = .ok (.aload_n 0, 1) := dk_42 (dk_at dksX3_watch_2 5 rfl rfl)
theorem dX3_watch_52 : decode cX3_watch 52 = .ok (.getfield 325, 3) := dk_180 1 69 (dk_at dksX3_watch_2 6 rfl rfl)
theorem dX3_watch_55 : decode cX3_watch 55 = .ok (.if_icmp .lt 9, 3) := dk_161 0 9 (dk_at dksX3_watch_2 9 rfl rfl)
theorem dX3_watch_58 : decode cX3_watch 58 = .ok (.iload 4, 2) := dk_21 4 (dk_at dksX3_watch_2 12 rfl rfl)
theorem dX3_watch_60 : decode cX3_watch 60 = .ok (.iconst 4, 1) := dk_7 (dk_at dksX3_watch_2 14 rfl rfl)
theorem dX3_watch_61 : decode cX3_watch 61 = .ok (.if_icmp .ne 101, 3) := dk_160 0 101 (dk_at dksX3_watch_2 15 rfl rfl)
theorem dX3_watch_64 : decode cX3_watch 64 = .ok (.aload_n 0, 1) := dk_42 (dk_at dksX3_watch_2 18 rfl rfl)
theorem dX3_watch_65 : decode cX3_watch 65 = .ok (.iload 4, 2) := dk_21 4 (dk_at dksX3_watch_2 19 rfl rfl)
theorem dX3_watch_67 : decode cX3_watch 67 = .ok (.invokevirtual 448, 3) := dk_182 1 192 (dk_at dksX3_watch_2 21 rfl rfl)
theorem dX3_watch_70 : decode cX3_watch 70 = .ok (.ifCond .ne 6, 3) := dk_154 0 6 (dk_at dksX3_watch_3 0 rfl rfl)
theorem dX3_watch_73 : decode cX3_watch 73 = .ok (.goto 89, 3) := dk_167 0 89 (dk_at dksX3_watch_3 3 rfl rfl)
theorem dX3_watch_76 : decode cX3_watch 76 = .ok (.iinc 3 1, 3) := dk_132 3 1 (dk_at dksX3_watch_3 6 rfl rfl)
theorem dX3_watch_79 : decode cX3_watch 79 = .ok (.iconst 0, 1) := dk_3 (dk_at dksX3_watch_3 9 rfl rfl)
theorem dX3_watch_80 : decode cX3_watch 80 = .ok (.istore 5, 2) := dk_54 5 (dk_at dksX3_watch_3 10 rfl rfl)
theorem dX3_watch_82 : decode cX3_watch 82 = .ok (.iload 5, 2) := dk_21 5 (dk_at dksX3_watch_3 12 rfl rfl)
theorem dX3_watch_84 : decode cX3_watch 84 = .ok (.aload_n 0, 1) := dk_42 (dk_at dksX3_watch_3 14 rfl rfl)
theorem dX3_watch_85 : decode cX3_watch 85 = .ok (.getfield 313, 3) := dk_180 1 57 (dk_at dksX3_watch_3 15 rfl rfl)
theorem dX3_watch_88 : decode cX3_watch 88 = .ok (.if_icmp .ge 74, 3) := dk_162 0 74 (dk_at dksX3_watch_3 18 rfl rfl)
theorem dX3_watch_91 : decode cX3_watch 91 = .ok (.iconst 0, 1) := dk_3 (dk_at dksX3_watch_3 21 rfl rfl)
theorem dX3_watch_92 : decode cX3_watch 92 = .ok (.istore 6, 2) := dk_54 6 (dk_at dksX3_watch_3 22 rfl rfl)
theorem dX3_watch_94 : decode cX3_watch 94 = .ok (.iconst 0, 1) := dk_3 (dk_at dksX3_watch_4 0 rfl rfl)
theorem dX3_watch_95 : decode cX3_watch 95 = .ok (.istore 7, 2) := dk_54 7 (dk_at dksX3_watch_4 1 rfl rfl)
theorem dX3_watch_97 : decode cX3_watch 97 = .ok (.iload 7, 2) := dk_21 7 (dk_at dksX3_watch_4 3 rfl rfl)
theorem dX3_watch_99 : decode cX3_watch 99 = .ok (.aload_n 0, 1) := dk_42 (dk_at dksX3_watch_4 5 rfl rfl)
theorem dX3_watch_100 : decode cX3_watch 100 = .ok (.getfield 319, 3) := dk_180 1 63 (dk_at dksX3_watch_4 6 rfl rfl)
theorem dX3_watch_103 : decode cX3_watch 103 = .ok (.if_icmp .ge 33, 3) := dk_162 0 33 (dk_at dksX3_watch_4 9 rfl rfl)
theorem dX3_watch_106 : decode cX3_watch 106 = .ok (.iload 6, 2) := dk_21 6 (dk_at dksX3_watch_4 12 rfl rfl)
theorem dX3_watch_108 : decode cX3_watch 108 = .ok (.ifCond .ne 15, 3) := dk_154 0 15 (dk_at dksX3_watch_4 14 rfl rfl)
theorem dX3_watch_111 : decode cX3_watch 111 = .ok (.aload_n 0, 1) := dk_42 (dk_at dksX3_watch_4 17 rfl rfl)
theorem dX3_watch_112 : decode cX3_watch 112 = .ok (.iload 7, 2) := dk_21 7 (dk_at dksX3_watch_4 18 rfl rfl)
theorem dX3_watch_114 : decode cX3_watch 114 = .ok (.iload_n 1, 1) := dk_27 (dk_at dksX3_watch_4 20 rfl rfl)
theorem dX3_watch_115 : decode cX3_watch 115 = .ok (.invokevirtual 399, 3) := dk_182 1 143 (dk_at dksX3_watch_4 21 rfl rfl)
theorem dX3_watch_118 : decode cX3_watch 118 = .ok (.iload 5, 2) := dk_21 5 (dk_at dksX3_watch_5 0 rfl rfl)
theorem dX3_watch_120 : decode cX3_watch 120 = .ok (.if_icmp .ne 7, 3) := dk_160 0 7 (dk_at dksX3_watch_5 2 rfl rfl)
theorem dX3_watch_123 : decode cX3_watch 123 = .ok (.iconst 1, 1) := dk_4 (dk_at dksX3_watch_5 5 rfl rfl)
theorem dX3_watch_124 : decode cX3_watch 124 = .ok (.goto 4, 3) := dk_167 0 4 (dk_at dksX3_watch_5 6 rfl rfl)
theorem dX3_watch_127 : decode cX3_watch 127 = .ok (.iconst 0, 1) := dk_3 (dk_at dksX3_watch_5 9 rfl rfl)
theorem dX3_watch_128 : decode cX3_watch 128 = .ok (.istore 6, 2) := dk_54 6 (dk_at dksX3_watch_5 10 rfl rfl)
theorem dX3_watch_130 : decode cX3_watch 130 = .ok (.iinc 7 1, 3) := dk_132 7 1 (dk_at dksX3_watch_5 12 rfl rfl)
theorem dX3_watch_133 : decode cX3_watch 133 = .ok (.goto (-36), 3) := dk_167 255 220 (dk_at dksX3_watch_5 15 rfl rfl)
theorem dX3_watch_136 : decode cX3_watch 136 = .ok (.aload_n 0, 1) := dk_42 (dk_at dksX3_watch_5 18 rfl rfl)
theorem dX3_watch_137 : decode cX3_watch 137 = .ok (.getfield 135, 3) := dk_180 0 135 (dk_at dksX3_watch_5 19 rfl rfl)
theorem dX3_watch_140 : decode cX3_watch 140 = .ok (.iload 5, 2) := dk_21 5 (dk_at dksX3_watch_5 22 rfl rfl)
theorem dX3_watch_142 : decode cX3_watch 142 = .ok (.dup2, 1) := dk_92 (dk_at dksX3_watch_6 0 rfl rfl)
theorem dX3_watch_143 : decode cX3_watch 143 = .ok (.iaload, 1) := dk_46 (dk_at dksX3_watch_6 1 rfl rfl)
theorem dX3_watch_144 : decode cX3_watch 144 = .ok (.iload 6, 2) := dk_21 6 (dk_at dksX3_watch_6 2 rfl rfl)
theorem dX3_watch_146 : decode cX3_watch 146 = .ok (.ifCond .eq 7, 3) := dk_153 0 7 (dk_at dksX3_watch_6 4 rfl rfl)
theorem dX3_watch_149 : decode cX3_watch 149 = .ok (.iconst 1, 1) := dk_4 (dk_at dksX3_watch_6 7 rfl rfl)
theorem dX3_watch_150 : decode cX3_watch 150 = .ok (.goto 4, 3) := dk_167 0 4 (dk_at dksX3_watch_6 8 rfl rfl)
theorem dX3_watch_153 : decode cX3_watch 153 = .ok (.iconst 0, 1) := dk_3 (dk_at dksX3_watch_6 11 rfl rfl)
theorem dX3_watch_154 : decode cX3_watch 154 = .ok (.iadd, 1) := dk_96 (dk_at dksX3_watch_6 12 rfl rfl)
theorem dX3_watch_155 : decode cX3_watch 155 = .ok (.iastore, 1) := dk_79 (dk_at dksX3_watch_6 13 rfl rfl)
theorem dX3_watch_156 : decode cX3_watch 156 = .ok (.iinc 5 1, 3) := dk_132 5 1 (dk_at dksX3_watch_6 14 rfl rfl)
theorem dX3_watch_159 : decode cX3_watch 159 = .ok (.goto (-77), 3) := dk_167 255 179 (dk_at dksX3_watch_6 17 rfl rfl)
theorem dX3_watch_162 : decode cX3_watch 162 = .ok (.iinc 4 1, 3) := dk_132 4 1 (dk_at dksX3_watch_6 20 rfl rfl)
theorem dX3_watch_165 : decode cX3_watch 165 = .ok (.goto (-122), 3) := dk_167 255 134 (dk_at dksX3_watch_7 0 rfl rfl)
theorem dX3_watch_168 : decode cX3_watch 168 = .ok (.aload_n 0, 1) := dk_42 (dk_at dksX3_watch_7 3 rfl rfl)
theorem dX3_watch_169 : decode cX3_watch 169 = .ok (.getfield 78, 3) := dk_180 0 78 (dk_at dksX3_watch_7 4 rfl rfl)
theorem dX3_watch_172 : decode cX3_watch 172 = .ok (.iconst 0, 1) := dk_3 (dk_at dksX3_watch_7 7 rfl rfl)
theorem dX3_watch_173 : decode cX3_watch 173 = .ok (.iload_n 2, 1) := dk_28 (dk_at dksX3_watch_7 8 rfl rfl)
theorem dX3_watch_174 : decode cX3_watch 174 = .ok (.iastore, 1) := dk_79 (dk_at dksX3_watch_7 9 rfl rfl)
theorem dX3_watch_175 : decode cX3_watch 175 = .ok (.iconst (-1), 1) := dk_2 (dk_at dksX3_watch_7 10 rfl rfl)
theorem dX3_watch_176 : decode cX3_watch 176 = .ok (.istore 4, 2) := dk_54 4 (dk_at dksX3_watch_7 11 rfl rfl)
theorem dX3_watch_178 : decode cX3_watch 178 = .ok (.iconst 0, 1) := dk_3 (dk_at dksX3_watch_7 13 rfl rfl)
theorem dX3_watch_179 : decode cX3_watch 179 = .ok (.istore 5, 2) := dk_54 5 (dk_at dksX3_watch_7 14 rfl rfl)
theorem dX3_watch_181 : decode cX3_watch 181 = .ok (.iload 5, 2) := dk_21 5 (dk_at dksX3_watch_7 16 rfl rfl)
theorem dX3_watch_183 : decode cX3_watch 183 = .ok (.aload_n 0, 1) := dk_42 (dk_at dksX3_watch_7 18 rfl rfl)
theorem dX3_watch_184 : decode cX3_watch 184 = .ok (.getfield 313, 3) := dk_180 1 57 (dk_at dksX3_watch_7 19 rfl rfl)
theorem dX3_watch_187 : decode cX3_watch 187 = .ok (.if_icmp .ge 48, 3) := dk_162 0 48 (dk_at dksX3_watch_8 0 rfl rfl)
theorem dX3_watch_190 : decode cX3_watch 190 = .ok (.iload 4, 2) := dk_21 4 (dk_at dksX3_watch_8 3 rfl rfl)
theorem dX3_watch_192 : decode cX3_watch 192 = .ok (.iconst (-1), 1) := dk_2 (dk_at dksX3_watch_8 5 rfl rfl)
theorem dX3_watch_193 : decode cX3_watch 193 = .ok (.if_icmp .eq 32, 3) := dk_159 0 32 (dk_at dksX3_watch_8 6 rfl rfl)
theorem dX3_watch_196 : decode cX3_watch 196 = .ok (.iconst 2, 1) := dk_5 (dk_at dksX3_watch_8 9 rfl rfl)
theorem dX3_watch_197 : decode cX3_watch 197 = .ok (.aload_n 0, 1) := dk_42 (dk_at dksX3_watch_8 10 rfl rfl)
theorem dX3_watch_198 : decode cX3_watch 198 = .ok (.getfield 135, 3) := dk_180 0 135 (dk_at dksX3_watch_8 11 rfl rfl)
theorem dX3_watch_201 : decode cX3_watch 201 = .ok (.iload 5, 2) := dk_21 5 (dk_at dksX3_watch_8 14 rfl rfl)
theorem dX3_watch_203 : decode cX3_watch 203 = .ok (.iaload, 1) := dk_46 (dk_at dksX3_watch_8 16 rfl rfl)
theorem dX3_watch_204 : decode cX3_watch 204 = .ok (.imul, 1) := dk_104 (dk_at dksX3_watch_8 17 rfl rfl)
theorem dX3_watch_205 : decode cX3_watch 205 = .ok (.iload_n 3, 1) := dk_29 (dk_at dksX3_watch_8 18 rfl rfl)
theorem dX3_watch_206 : decode cX3_watch 206 = .ok (.invokestatic 451, 3) := dk_184 1 195 (dk_at dksX3_watch_8 19 rfl rfl)
theorem dX3_watch_209 : decode cX3_watch 209 = .ok (.iconst 2, 1) := dk_5 (dk_at dksX3_watch_8 22 rfl rfl)
theorem dX3_watch_210 : decode cX3_watch 210 = .ok (.aload_n 0, 1) := dk_42 (dk_at dksX3_watch_8 23 rfl rfl)
theorem dX3_watch_211 : decode cX3_watch 211 = .ok (.getfield 135, 3) := dk_180 0 135 (dk_at dksX3_watch_9 0 rfl rfl)
theorem dX3_watch_214 : decode cX3_watch 214 = .ok (.iload 4, 2) := dk_21 4 (dk_at dksX3_watch_9 3 rfl rfl)
theorem dX3_watch_216 : decode cX3_watch 216 = .ok (.iaload, 1) := dk_46 (dk_at dksX3_watch_9 5 rfl rfl)
theorem dX3_watch_217 : decode cX3_watch 217 = .ok (.imul, 1) := dk_104 (dk_at dksX3_watch_9 6 rfl rfl)
theorem dX3_watch_218 : decode cX3_watch 218 = .ok (.iload_n 3, 1) := dk_29 (dk_at dksX3_watch_9 7 rfl rfl)
theorem dX3_watch_219 : decode cX3_watch 219 = .ok (.invokestatic 451, 3) := dk_184 1 195 (dk_at dksX3_watch_9 8 rfl rfl)
theorem dX3_watch_222 : decode cX3_watch 222 = .ok (.if_icmp .ge 7, 3) := dk_162 0 7 (dk_at dksX3_watch_9 11 rfl rfl)
theorem dX3_watch_225 : decode cX3_watch 225 = .ok (.iload 5, 2) := dk_21 5 (dk_at dksX3_watch_9 14 rfl rfl)
theorem dX3_watch_227 : decode cX3_watch 227 = .ok (.istore 4, 2) := dk_54 4 (dk_at dksX3_watch_9 16 rfl rfl)
theorem dX3_watch_229 : decode cX3_watch 229 = .ok (.iinc 5 1, 3) := dk_132 5 1 (dk_at dksX3_watch_9 18 rfl rfl)
theorem dX3_watch_232 : decode cX3_watch 232 = .ok (.goto (-51), 3) := dk_167 255 205 (dk_at dksX3_watch_9 21 rfl rfl)
theorem dX3_watch_235 : decode cX3_watch 235 = .ok (.iload 4, 2) := dk_21 4 (dk_at dksX3_watch_10 0 rfl rfl)
theorem dX3_watch_237 : decode cX3_watch 237 = .ok (.ireturn, 1) := dk_172 (dk_at dksX3_watch_10 2 rfl rfl)
abbrev cX3_off : ByteArray := prog_14_method_5_code
def yX3_off : MethodName := ⟨RX3, "off", "(II)I"⟩
def dkwX3_off_0 : List UInt8 := [26, 27, 162, 0, 9, 27, 26, 100, 167, 0, 6, 26, 27, 100, 172]
abbrev dktX3_off_0 : List UInt8 := dkwX3_off_0 ++ []
theorem dksX3_off_0 : cX3_off.data.toList.drop 0 = dktX3_off_0 := by decide +kernel
theorem dX3_off_0 : decode cX3_off 0 = .ok (.iload_n 0, 1) := dk_26 (dk_at dksX3_off_0 0 rfl rfl)
theorem dX3_off_1 : decode cX3_off 1 = .ok (.iload_n 1, 1) := dk_27 (dk_at dksX3_off_0 1 rfl rfl)
theorem dX3_off_2 : decode cX3_off 2 = .ok (.if_icmp .ge 9, 3) := dk_162 0 9 (dk_at dksX3_off_0 2 rfl rfl)
theorem dX3_off_5 : decode cX3_off 5 = .ok (.iload_n 1, 1) := dk_27 (dk_at dksX3_off_0 5 rfl rfl)
theorem dX3_off_6 : decode cX3_off 6 = .ok (.iload_n 0, 1) := dk_26 (dk_at dksX3_off_0 6 rfl rfl)
theorem dX3_off_7 : decode cX3_off 7 = .ok (.isub, 1) := dk_100 (dk_at dksX3_off_0 7 rfl rfl)
theorem dX3_off_8 : decode cX3_off 8 = .ok (.goto 6, 3) := dk_167 0 6 (dk_at dksX3_off_0 8 rfl rfl)
theorem dX3_off_11 : decode cX3_off 11 = .ok (.iload_n 0, 1) := dk_26 (dk_at dksX3_off_0 11 rfl rfl)
theorem dX3_off_12 : decode cX3_off 12 = .ok (.iload_n 1, 1) := dk_27 (dk_at dksX3_off_0 12 rfl rfl)
theorem dX3_off_13 : decode cX3_off 13 = .ok (.isub, 1) := dk_100 (dk_at dksX3_off_0 13 rfl rfl)
theorem dX3_off_14 : decode cX3_off 14 = .ok (.ireturn, 1) := dk_172 (dk_at dksX3_off_0 14 rfl rfl)
abbrev cX3_bats : ByteArray := prog_14_method_108_code
def yX3_bats : MethodName := ⟨RX3, "bats", "(I)I"⟩
def dkwX3_bats_6 : List UInt8 := [167, 255, 148, 132, 4, 1, 167, 255, 132, 27, 154, 0, 7, 28, 167, 0, 4, 29, 172]
abbrev dktX3_bats_6 : List UInt8 := dkwX3_bats_6 ++ []
def dkwX3_bats_5 : List UInt8 := [167, 0, 20, 132, 2, 1, 29, 2, 160, 0, 12, 16, 10, 21, 4, 104, 21, 5, 96, 62, 132, 5, 1]
abbrev dktX3_bats_5 : List UInt8 := dkwX3_bats_5 ++ dktX3_bats_6
def dkwX3_bats_4 : List UInt8 := [182, 1, 201, 163, 0, 7, 4, 167, 0, 4, 3, 54, 6, 132, 7, 1, 167, 255, 192, 21, 6, 154, 0, 6]
abbrev dktX3_bats_4 : List UInt8 := dkwX3_bats_4 ++ dktX3_bats_5
def dkwX3_bats_3 : List UInt8 := [21, 5, 4, 182, 1, 201, 163, 0, 28, 42, 21, 4, 21, 7, 3, 182, 1, 201, 42, 21, 4, 21, 5, 3]
abbrev dktX3_bats_3 : List UInt8 := dkwX3_bats_3 ++ dktX3_bats_4
def dkwX3_bats_2 : List UInt8 := [21, 7, 16, 9, 163, 0, 63, 21, 6, 153, 0, 49, 42, 21, 7, 21, 5, 4, 182, 1, 201, 42, 21, 4]
abbrev dktX3_bats_2 : List UInt8 := dkwX3_bats_2 ++ dktX3_bats_3
def dkwX3_bats_1 : List UInt8 := [21, 4, 16, 9, 163, 0, 123, 4, 54, 5, 21, 5, 16, 9, 163, 0, 107, 4, 54, 6, 4, 54, 7]
abbrev dktX3_bats_1 : List UInt8 := dkwX3_bats_1 ++ dktX3_bats_2
def dkwX3_bats_0 : List UInt8 := [42, 3, 181, 0, 147, 42, 27, 4, 182, 1, 139, 154, 0, 5, 3, 172, 3, 61, 2, 62, 4, 54, 4]
abbrev dktX3_bats_0 : List UInt8 := dkwX3_bats_0 ++ dktX3_bats_1
theorem dksX3_bats_0 : cX3_bats.data.toList.drop 0 = dktX3_bats_0 := by decide +kernel
theorem dksX3_bats_1 : cX3_bats.data.toList.drop 23 = dktX3_bats_1 := dk_seg dksX3_bats_0 23 rfl rfl
theorem dksX3_bats_2 : cX3_bats.data.toList.drop 46 = dktX3_bats_2 := dk_seg dksX3_bats_1 23 rfl rfl
theorem dksX3_bats_3 : cX3_bats.data.toList.drop 70 = dktX3_bats_3 := dk_seg dksX3_bats_2 24 rfl rfl
theorem dksX3_bats_4 : cX3_bats.data.toList.drop 94 = dktX3_bats_4 := dk_seg dksX3_bats_3 24 rfl rfl
theorem dksX3_bats_5 : cX3_bats.data.toList.drop 118 = dktX3_bats_5 := dk_seg dksX3_bats_4 24 rfl rfl
theorem dksX3_bats_6 : cX3_bats.data.toList.drop 141 = dktX3_bats_6 := dk_seg dksX3_bats_5 23 rfl rfl
theorem dX3_bats_0 : decode cX3_bats 0 = .ok (.aload_n 0, 1) := dk_42 (dk_at dksX3_bats_0 0 rfl rfl)
theorem dX3_bats_1 : decode cX3_bats 1 = .ok (.iconst 0, 1) := dk_3 (dk_at dksX3_bats_0 1 rfl rfl)
theorem dX3_bats_2 : decode cX3_bats 2 = .ok (.putfield 147, 3) := dk_181 0 147 (dk_at dksX3_bats_0 2 rfl rfl)
theorem dX3_bats_5 : decode cX3_bats 5 = .ok (.aload_n 0, 1) := dk_42 (dk_at dksX3_bats_0 5 rfl rfl)
theorem dX3_bats_6 : decode cX3_bats 6 = .ok (.iload_n 1, 1) := dk_27 (dk_at dksX3_bats_0 6 rfl rfl)
theorem dX3_bats_7 : decode cX3_bats 7 = .ok (.iconst 1, 1) := dk_4 (dk_at dksX3_bats_0 7 rfl rfl)
theorem dX3_bats_8 : decode cX3_bats 8 = .ok (.invokevirtual 395, 3) := dk_182 1 139 (dk_at dksX3_bats_0 8 rfl rfl)
theorem dX3_bats_11 : decode cX3_bats 11 = .ok (.ifCond .ne 5, 3) := dk_154 0 5 (dk_at dksX3_bats_0 11 rfl rfl)
theorem dX3_bats_14 : decode cX3_bats 14 = .ok (.iconst 0, 1) := dk_3 (dk_at dksX3_bats_0 14 rfl rfl)
theorem dX3_bats_15 : decode cX3_bats 15 = .ok (.ireturn, 1) := dk_172 (dk_at dksX3_bats_0 15 rfl rfl)
theorem dX3_bats_16 : decode cX3_bats 16 = .ok (.iconst 0, 1) := dk_3 (dk_at dksX3_bats_0 16 rfl rfl)
theorem dX3_bats_17 : decode cX3_bats 17 = .ok (.istore_n 2, 1) := dk_61 (dk_at dksX3_bats_0 17 rfl rfl)
theorem dX3_bats_18 : decode cX3_bats 18 = .ok (.iconst (-1), 1) := dk_2 (dk_at dksX3_bats_0 18 rfl rfl)
theorem dX3_bats_19 : decode cX3_bats 19 = .ok (.istore_n 3, 1) := dk_62 (dk_at dksX3_bats_0 19 rfl rfl)
theorem dX3_bats_20 : decode cX3_bats 20 = .ok (.iconst 1, 1) := dk_4 (dk_at dksX3_bats_0 20 rfl rfl)
theorem dX3_bats_21 : decode cX3_bats 21 = .ok (.istore 4, 2) := dk_54 4 (dk_at dksX3_bats_0 21 rfl rfl)
theorem dX3_bats_23 : decode cX3_bats 23 = .ok (.iload 4, 2) := dk_21 4 (dk_at dksX3_bats_1 0 rfl rfl)
theorem dX3_bats_25 : decode cX3_bats 25 = .ok (.bipush 9, 2) := dk_16 9 (dk_at dksX3_bats_1 2 rfl rfl)
theorem dX3_bats_27 : decode cX3_bats 27 = .ok (.if_icmp .gt 123, 3) := dk_163 0 123 (dk_at dksX3_bats_1 4 rfl rfl)
theorem dX3_bats_30 : decode cX3_bats 30 = .ok (.iconst 1, 1) := dk_4 (dk_at dksX3_bats_1 7 rfl rfl)
theorem dX3_bats_31 : decode cX3_bats 31 = .ok (.istore 5, 2) := dk_54 5 (dk_at dksX3_bats_1 8 rfl rfl)
theorem dX3_bats_33 : decode cX3_bats 33 = .ok (.iload 5, 2) := dk_21 5 (dk_at dksX3_bats_1 10 rfl rfl)
theorem dX3_bats_35 : decode cX3_bats 35 = .ok (.bipush 9, 2) := dk_16 9 (dk_at dksX3_bats_1 12 rfl rfl)
theorem dX3_bats_37 : decode cX3_bats 37 = .ok (.if_icmp .gt 107, 3) := dk_163 0 107 (dk_at dksX3_bats_1 14 rfl rfl)
theorem dX3_bats_40 : decode cX3_bats 40 = .ok (.iconst 1, 1) := dk_4 (dk_at dksX3_bats_1 17 rfl rfl)
theorem dX3_bats_41 : decode cX3_bats 41 = .ok (.istore 6, 2) := dk_54 6 (dk_at dksX3_bats_1 18 rfl rfl)
theorem dX3_bats_43 : decode cX3_bats 43 = .ok (.iconst 1, 1) := dk_4 (dk_at dksX3_bats_1 20 rfl rfl)
theorem dX3_bats_44 : decode cX3_bats 44 = .ok (.istore 7, 2) := dk_54 7 (dk_at dksX3_bats_1 21 rfl rfl)
theorem dX3_bats_46 : decode cX3_bats 46 = .ok (.iload 7, 2) := dk_21 7 (dk_at dksX3_bats_2 0 rfl rfl)
theorem dX3_bats_48 : decode cX3_bats 48 = .ok (.bipush 9, 2) := dk_16 9 (dk_at dksX3_bats_2 2 rfl rfl)
theorem dX3_bats_50 : decode cX3_bats 50 = .ok (.if_icmp .gt 63, 3) := dk_163 0 63 (dk_at dksX3_bats_2 4 rfl rfl)
theorem dX3_bats_53 : decode cX3_bats 53 = .ok (.iload 6, 2) := dk_21 6 (dk_at dksX3_bats_2 7 rfl rfl)
theorem dX3_bats_55 : decode cX3_bats 55 = .ok (.ifCond .eq 49, 3) := dk_153 0 49 (dk_at dksX3_bats_2 9 rfl rfl)
theorem dX3_bats_58 : decode cX3_bats 58 = .ok (.aload_n 0, 1) := dk_42 (dk_at dksX3_bats_2 12 rfl rfl)
theorem dX3_bats_59 : decode cX3_bats 59 = .ok (.iload 7, 2) := dk_21 7 (dk_at dksX3_bats_2 13 rfl rfl)
theorem dX3_bats_61 : decode cX3_bats 61 = .ok (.iload 5, 2) := dk_21 5 (dk_at dksX3_bats_2 15 rfl rfl)
theorem dX3_bats_63 : decode cX3_bats 63 = .ok (.iconst 1, 1) := dk_4 (dk_at dksX3_bats_2 17 rfl rfl)
theorem dX3_bats_64 : decode cX3_bats 64 = .ok (.invokevirtual 457, 3) := dk_182 1 201 (dk_at dksX3_bats_2 18 rfl rfl)
theorem dX3_bats_67 : decode cX3_bats 67 = .ok (.aload_n 0, 1) := dk_42 (dk_at dksX3_bats_2 21 rfl rfl)
theorem dX3_bats_68 : decode cX3_bats 68 = .ok (.iload 4, 2) := dk_21 4 (dk_at dksX3_bats_2 22 rfl rfl)
theorem dX3_bats_70 : decode cX3_bats 70 = .ok (.iload 5, 2) := dk_21 5 (dk_at dksX3_bats_3 0 rfl rfl)
theorem dX3_bats_72 : decode cX3_bats 72 = .ok (.iconst 1, 1) := dk_4 (dk_at dksX3_bats_3 2 rfl rfl)
theorem dX3_bats_73 : decode cX3_bats 73 = .ok (.invokevirtual 457, 3) := dk_182 1 201 (dk_at dksX3_bats_3 3 rfl rfl)
theorem dX3_bats_76 : decode cX3_bats 76 = .ok (.if_icmp .gt 28, 3) := dk_163 0 28 (dk_at dksX3_bats_3 6 rfl rfl)
theorem dX3_bats_79 : decode cX3_bats 79 = .ok (.aload_n 0, 1) := dk_42 (dk_at dksX3_bats_3 9 rfl rfl)
theorem dX3_bats_80 : decode cX3_bats 80 = .ok (.iload 4, 2) := dk_21 4 (dk_at dksX3_bats_3 10 rfl rfl)
theorem dX3_bats_82 : decode cX3_bats 82 = .ok (.iload 7, 2) := dk_21 7 (dk_at dksX3_bats_3 12 rfl rfl)
theorem dX3_bats_84 : decode cX3_bats 84 = .ok (.iconst 0, 1) := dk_3 (dk_at dksX3_bats_3 14 rfl rfl)
theorem dX3_bats_85 : decode cX3_bats 85 = .ok (.invokevirtual 457, 3) := dk_182 1 201 (dk_at dksX3_bats_3 15 rfl rfl)
theorem dX3_bats_88 : decode cX3_bats 88 = .ok (.aload_n 0, 1) := dk_42 (dk_at dksX3_bats_3 18 rfl rfl)
theorem dX3_bats_89 : decode cX3_bats 89 = .ok (.iload 4, 2) := dk_21 4 (dk_at dksX3_bats_3 19 rfl rfl)
theorem dX3_bats_91 : decode cX3_bats 91 = .ok (.iload 5, 2) := dk_21 5 (dk_at dksX3_bats_3 21 rfl rfl)
theorem dX3_bats_93 : decode cX3_bats 93 = .ok (.iconst 0, 1) := dk_3 (dk_at dksX3_bats_3 23 rfl rfl)
theorem dX3_bats_94 : decode cX3_bats 94 = .ok (.invokevirtual 457, 3) := dk_182 1 201 (dk_at dksX3_bats_4 0 rfl rfl)
theorem dX3_bats_97 : decode cX3_bats 97 = .ok (.if_icmp .gt 7, 3) := dk_163 0 7 (dk_at dksX3_bats_4 3 rfl rfl)
theorem dX3_bats_100 : decode cX3_bats 100 = .ok (.iconst 1, 1) := dk_4 (dk_at dksX3_bats_4 6 rfl rfl)
theorem dX3_bats_101 : decode cX3_bats 101 = .ok (.goto 4, 3) := dk_167 0 4 (dk_at dksX3_bats_4 7 rfl rfl)
theorem dX3_bats_104 : decode cX3_bats 104 = .ok (.iconst 0, 1) := dk_3 (dk_at dksX3_bats_4 10 rfl rfl)
theorem dX3_bats_105 : decode cX3_bats 105 = .ok (.istore 6, 2) := dk_54 6 (dk_at dksX3_bats_4 11 rfl rfl)
theorem dX3_bats_107 : decode cX3_bats 107 = .ok (.iinc 7 1, 3) := dk_132 7 1 (dk_at dksX3_bats_4 13 rfl rfl)
theorem dX3_bats_110 : decode cX3_bats 110 = .ok (.goto (-64), 3) := dk_167 255 192 (dk_at dksX3_bats_4 16 rfl rfl)
theorem dX3_bats_113 : decode cX3_bats 113 = .ok (.iload 6, 2) := dk_21 6 (dk_at dksX3_bats_4 19 rfl rfl)
theorem dX3_bats_115 : decode cX3_bats 115 = .ok (.ifCond .ne 6, 3) := dk_154 0 6 (dk_at dksX3_bats_4 21 rfl rfl)
theorem dX3_bats_118 : decode cX3_bats 118 = .ok (.goto 20, 3) := dk_167 0 20 (dk_at dksX3_bats_5 0 rfl rfl)
theorem dX3_bats_121 : decode cX3_bats 121 = .ok (.iinc 2 1, 3) := dk_132 2 1 (dk_at dksX3_bats_5 3 rfl rfl)
theorem dX3_bats_124 : decode cX3_bats 124 = .ok (.iload_n 3, 1) := dk_29 (dk_at dksX3_bats_5 6 rfl rfl)
theorem dX3_bats_125 : decode cX3_bats 125 = .ok (.iconst (-1), 1) := dk_2 (dk_at dksX3_bats_5 7 rfl rfl)
theorem dX3_bats_126 : decode cX3_bats 126 = .ok (.if_icmp .ne 12, 3) := dk_160 0 12 (dk_at dksX3_bats_5 8 rfl rfl)
theorem dX3_bats_129 : decode cX3_bats 129 = .ok (.bipush 10, 2) := dk_16 10 (dk_at dksX3_bats_5 11 rfl rfl)
theorem dX3_bats_131 : decode cX3_bats 131 = .ok (.iload 4, 2) := dk_21 4 (dk_at dksX3_bats_5 13 rfl rfl)
theorem dX3_bats_133 : decode cX3_bats 133 = .ok (.imul, 1) := dk_104 (dk_at dksX3_bats_5 15 rfl rfl)
theorem dX3_bats_134 : decode cX3_bats 134 = .ok (.iload 5, 2) := dk_21 5 (dk_at dksX3_bats_5 16 rfl rfl)
theorem dX3_bats_136 : decode cX3_bats 136 = .ok (.iadd, 1) := dk_96 (dk_at dksX3_bats_5 18 rfl rfl)
theorem dX3_bats_137 : decode cX3_bats 137 = .ok (.istore_n 3, 1) := dk_62 (dk_at dksX3_bats_5 19 rfl rfl)
theorem dX3_bats_138 : decode cX3_bats 138 = .ok (.iinc 5 1, 3) := dk_132 5 1 (dk_at dksX3_bats_5 20 rfl rfl)
theorem dX3_bats_141 : decode cX3_bats 141 = .ok (.goto (-108), 3) := dk_167 255 148 (dk_at dksX3_bats_6 0 rfl rfl)
theorem dX3_bats_144 : decode cX3_bats 144 = .ok (.iinc 4 1, 3) := dk_132 4 1 (dk_at dksX3_bats_6 3 rfl rfl)
theorem dX3_bats_147 : decode cX3_bats 147 = .ok (.goto (-124), 3) := dk_167 255 132 (dk_at dksX3_bats_6 6 rfl rfl)
theorem dX3_bats_150 : decode cX3_bats 150 = .ok (.iload_n 1, 1) := dk_27 (dk_at dksX3_bats_6 9 rfl rfl)
theorem dX3_bats_151 : decode cX3_bats 151 = .ok (.ifCond .ne 7, 3) := dk_154 0 7 (dk_at dksX3_bats_6 10 rfl rfl)
theorem dX3_bats_154 : decode cX3_bats 154 = .ok (.iload_n 2, 1) := dk_28 (dk_at dksX3_bats_6 13 rfl rfl)
theorem dX3_bats_155 : decode cX3_bats 155 = .ok (.goto 4, 3) := dk_167 0 4 (dk_at dksX3_bats_6 14 rfl rfl)
theorem dX3_bats_158 : decode cX3_bats 158 = .ok (.iload_n 3, 1) := dk_29 (dk_at dksX3_bats_6 17 rfl rfl)
theorem dX3_bats_159 : decode cX3_bats 159 = .ok (.ireturn, 1) := dk_172 (dk_at dksX3_bats_6 18 rfl rfl)
abbrev cX3_gains : ByteArray := prog_14_method_107_code
def yX3_gains : MethodName := ⟨RX3, "gains", "(IIZ)I"⟩
def dkwX3_gains_1 : List UInt8 := [160, 0, 17, 42, 21, 4, 182, 1, 198, 21, 4, 4, 100, 104, 167, 0, 4, 3, 172]
abbrev dktX3_gains_1 : List UInt8 := dkwX3_gains_1 ++ []
def dkwX3_gains_0 : List UInt8 := [29, 153, 0, 7, 27, 167, 0, 4, 28, 54, 4, 27, 28, 163, 0, 7, 4, 167, 0, 4, 3, 29]
abbrev dktX3_gains_0 : List UInt8 := dkwX3_gains_0 ++ dktX3_gains_1
theorem dksX3_gains_0 : cX3_gains.data.toList.drop 0 = dktX3_gains_0 := by decide +kernel
theorem dksX3_gains_1 : cX3_gains.data.toList.drop 22 = dktX3_gains_1 := dk_seg dksX3_gains_0 22 rfl rfl
theorem dX3_gains_0 : decode cX3_gains 0 = .ok (.iload_n 3, 1) := dk_29 (dk_at dksX3_gains_0 0 rfl rfl)
theorem dX3_gains_1 : decode cX3_gains 1 = .ok (.ifCond .eq 7, 3) := dk_153 0 7 (dk_at dksX3_gains_0 1 rfl rfl)
theorem dX3_gains_4 : decode cX3_gains 4 = .ok (.iload_n 1, 1) := dk_27 (dk_at dksX3_gains_0 4 rfl rfl)
theorem dX3_gains_5 : decode cX3_gains 5 = .ok (.goto 4, 3) := dk_167 0 4 (dk_at dksX3_gains_0 5 rfl rfl)
theorem dX3_gains_8 : decode cX3_gains 8 = .ok (.iload_n 2, 1) := dk_28 (dk_at dksX3_gains_0 8 rfl rfl)
theorem dX3_gains_9 : decode cX3_gains 9 = .ok (.istore 4, 2) := dk_54 4 (dk_at dksX3_gains_0 9 rfl rfl)
theorem dX3_gains_11 : decode cX3_gains 11 = .ok (.iload_n 1, 1) := dk_27 (dk_at dksX3_gains_0 11 rfl rfl)
theorem dX3_gains_12 : decode cX3_gains 12 = .ok (.iload_n 2, 1) := dk_28 (dk_at dksX3_gains_0 12 rfl rfl)
theorem dX3_gains_13 : decode cX3_gains 13 = .ok (.if_icmp .gt 7, 3) := dk_163 0 7 (dk_at dksX3_gains_0 13 rfl rfl)
theorem dX3_gains_16 : decode cX3_gains 16 = .ok (.iconst 1, 1) := dk_4 (dk_at dksX3_gains_0 16 rfl rfl)
theorem dX3_gains_17 : decode cX3_gains 17 = .ok (.goto 4, 3) := dk_167 0 4 (dk_at dksX3_gains_0 17 rfl rfl)
theorem dX3_gains_20 : decode cX3_gains 20 = .ok (.iconst 0, 1) := dk_3 (dk_at dksX3_gains_0 20 rfl rfl)
theorem dX3_gains_21 : decode cX3_gains 21 = .ok (.iload_n 3, 1) := dk_29 (dk_at dksX3_gains_0 21 rfl rfl)
theorem dX3_gains_22 : decode cX3_gains 22 = .ok (.if_icmp .ne 17, 3) := dk_160 0 17 (dk_at dksX3_gains_1 0 rfl rfl)
theorem dX3_gains_25 : decode cX3_gains 25 = .ok (.aload_n 0, 1) := dk_42 (dk_at dksX3_gains_1 3 rfl rfl)
theorem dX3_gains_26 : decode cX3_gains 26 = .ok (.iload 4, 2) := dk_21 4 (dk_at dksX3_gains_1 4 rfl rfl)
theorem dX3_gains_28 : decode cX3_gains 28 = .ok (.invokevirtual 454, 3) := dk_182 1 198 (dk_at dksX3_gains_1 6 rfl rfl)
theorem dX3_gains_31 : decode cX3_gains 31 = .ok (.iload 4, 2) := dk_21 4 (dk_at dksX3_gains_1 9 rfl rfl)
theorem dX3_gains_33 : decode cX3_gains 33 = .ok (.iconst 1, 1) := dk_4 (dk_at dksX3_gains_1 11 rfl rfl)
theorem dX3_gains_34 : decode cX3_gains 34 = .ok (.isub, 1) := dk_100 (dk_at dksX3_gains_1 12 rfl rfl)
theorem dX3_gains_35 : decode cX3_gains 35 = .ok (.imul, 1) := dk_104 (dk_at dksX3_gains_1 13 rfl rfl)
theorem dX3_gains_36 : decode cX3_gains 36 = .ok (.goto 4, 3) := dk_167 0 4 (dk_at dksX3_gains_1 14 rfl rfl)
theorem dX3_gains_39 : decode cX3_gains 39 = .ok (.iconst 0, 1) := dk_3 (dk_at dksX3_gains_1 17 rfl rfl)
theorem dX3_gains_40 : decode cX3_gains 40 = .ok (.ireturn, 1) := dk_172 (dk_at dksX3_gains_1 18 rfl rfl)
abbrev cX3_takers : ByteArray := prog_14_method_106_code
def yX3_takers : MethodName := ⟨RX3, "takers", "(I)I"⟩
def dkwX3_takers_1 : List UInt8 := [161, 0, 7, 4, 167, 0, 4, 3, 96, 61, 132, 3, 1, 167, 255, 223, 28, 172]
abbrev dktX3_takers_1 : List UInt8 := dkwX3_takers_1 ++ []
def dkwX3_takers_0 : List UInt8 := [3, 61, 3, 62, 29, 42, 180, 1, 66, 162, 0, 31, 28, 42, 180, 0, 26, 7, 29, 104, 6, 96, 46, 27]
abbrev dktX3_takers_0 : List UInt8 := dkwX3_takers_0 ++ dktX3_takers_1
theorem dksX3_takers_0 : cX3_takers.data.toList.drop 0 = dktX3_takers_0 := by decide +kernel
theorem dksX3_takers_1 : cX3_takers.data.toList.drop 24 = dktX3_takers_1 := dk_seg dksX3_takers_0 24 rfl rfl
theorem dX3_takers_0 : decode cX3_takers 0 = .ok (.iconst 0, 1) := dk_3 (dk_at dksX3_takers_0 0 rfl rfl)
theorem dX3_takers_1 : decode cX3_takers 1 = .ok (.istore_n 2, 1) := dk_61 (dk_at dksX3_takers_0 1 rfl rfl)
theorem dX3_takers_2 : decode cX3_takers 2 = .ok (.iconst 0, 1) := dk_3 (dk_at dksX3_takers_0 2 rfl rfl)
theorem dX3_takers_3 : decode cX3_takers 3 = .ok (.istore_n 3, 1) := dk_62 (dk_at dksX3_takers_0 3 rfl rfl)
theorem dX3_takers_4 : decode cX3_takers 4 = .ok (.iload_n 3, 1) := dk_29 (dk_at dksX3_takers_0 4 rfl rfl)
theorem dX3_takers_5 : decode cX3_takers 5 = .ok (.aload_n 0, 1) := dk_42 (dk_at dksX3_takers_0 5 rfl rfl)
theorem dX3_takers_6 : decode cX3_takers 6 = .ok (.getfield 322, 3) := dk_180 1 66 (dk_at dksX3_takers_0 6 rfl rfl)
theorem dX3_takers_9 : decode cX3_takers 9 = .ok (.if_icmp .ge 31, 3) := dk_162 0 31 (dk_at dksX3_takers_0 9 rfl rfl)
theorem dX3_takers_12 : decode cX3_takers 12 = .ok (.iload_n 2, 1) := dk_28 (dk_at dksX3_takers_0 12 rfl rfl)
theorem dX3_takers_13 : decode cX3_takers 13 = .ok (.aload_n 0, 1) := dk_42 (dk_at dksX3_takers_0 13 rfl rfl)
theorem dX3_takers_14 : decode cX3_takers 14 = .ok (.getfield 26, 3) := dk_180 0 26 (dk_at dksX3_takers_0 14 rfl rfl)
theorem dX3_takers_17 : decode cX3_takers 17 = .ok (.iconst 4, 1) := dk_7 (dk_at dksX3_takers_0 17 rfl rfl)
theorem dX3_takers_18 : decode cX3_takers 18 = .ok (.iload_n 3, 1) := dk_29 (dk_at dksX3_takers_0 18 rfl rfl)
theorem dX3_takers_19 : decode cX3_takers 19 = .ok (.imul, 1) := dk_104 (dk_at dksX3_takers_0 19 rfl rfl)
theorem dX3_takers_20 : decode cX3_takers 20 = .ok (.iconst 3, 1) := dk_6 (dk_at dksX3_takers_0 20 rfl rfl)
theorem dX3_takers_21 : decode cX3_takers 21 = .ok (.iadd, 1) := dk_96 (dk_at dksX3_takers_0 21 rfl rfl)
theorem dX3_takers_22 : decode cX3_takers 22 = .ok (.iaload, 1) := dk_46 (dk_at dksX3_takers_0 22 rfl rfl)
theorem dX3_takers_23 : decode cX3_takers 23 = .ok (.iload_n 1, 1) := dk_27 (dk_at dksX3_takers_0 23 rfl rfl)
theorem dX3_takers_24 : decode cX3_takers 24 = .ok (.if_icmp .lt 7, 3) := dk_161 0 7 (dk_at dksX3_takers_1 0 rfl rfl)
theorem dX3_takers_27 : decode cX3_takers 27 = .ok (.iconst 1, 1) := dk_4 (dk_at dksX3_takers_1 3 rfl rfl)
theorem dX3_takers_28 : decode cX3_takers 28 = .ok (.goto 4, 3) := dk_167 0 4 (dk_at dksX3_takers_1 4 rfl rfl)
theorem dX3_takers_31 : decode cX3_takers 31 = .ok (.iconst 0, 1) := dk_3 (dk_at dksX3_takers_1 7 rfl rfl)
theorem dX3_takers_32 : decode cX3_takers 32 = .ok (.iadd, 1) := dk_96 (dk_at dksX3_takers_1 8 rfl rfl)
theorem dX3_takers_33 : decode cX3_takers 33 = .ok (.istore_n 2, 1) := dk_61 (dk_at dksX3_takers_1 9 rfl rfl)
theorem dX3_takers_34 : decode cX3_takers 34 = .ok (.iinc 3 1, 3) := dk_132 3 1 (dk_at dksX3_takers_1 10 rfl rfl)
theorem dX3_takers_37 : decode cX3_takers 37 = .ok (.goto (-33), 3) := dk_167 255 223 (dk_at dksX3_takers_1 13 rfl rfl)
theorem dX3_takers_40 : decode cX3_takers 40 = .ok (.iload_n 2, 1) := dk_28 (dk_at dksX3_takers_1 16 rfl rfl)
theorem dX3_takers_41 : decode cX3_takers 41 = .ok (.ireturn, 1) := dk_172 (dk_at dksX3_takers_1 17 rfl rfl)
abbrev cX3_years : ByteArray := prog_14_method_109_code
def yX3_years : MethodName := ⟨RX3, "years", "(III)I"⟩
def dkwX3_years_9 : List UInt8 := [172]
abbrev dktX3_years_9 : List UInt8 := dkwX3_years_9 ++ []
def dkwX3_years_8 : List UInt8 := [182, 1, 72, 29, 154, 0, 8, 21, 5, 167, 0, 15, 29, 4, 160, 0, 8, 21, 6, 167, 0, 5, 21, 7]
abbrev dktX3_years_8 : List UInt8 := dkwX3_years_8 ++ dktX3_years_9
def dkwX3_years_7 : List UInt8 := [167, 0, 4, 3, 96, 54, 7, 132, 8, 1, 167, 255, 140, 42, 42, 180, 0, 81, 42, 180, 0, 78]
abbrev dktX3_years_7 : List UInt8 := dkwX3_years_7 ++ dktX3_years_8
def dkwX3_years_6 : List UInt8 := [162, 0, 8, 21, 9, 167, 0, 5, 21, 6, 54, 6, 21, 7, 21, 9, 42, 180, 1, 66, 160, 0, 7, 4]
abbrev dktX3_years_6 : List UInt8 := dkwX3_years_6 ++ dktX3_years_7
def dkwX3_years_5 : List UInt8 := [42, 182, 1, 133, 54, 9, 21, 5, 21, 9, 96, 54, 5, 21, 8, 153, 0, 10, 21, 9, 21, 6]
abbrev dktX3_years_5 : List UInt8 := dkwX3_years_5 ++ dktX3_years_6
def dkwX3_years_4 : List UInt8 := [180, 0, 78, 5, 21, 4, 16, 16, 122, 17, 127, 255, 126, 7, 112, 154, 0, 7, 4, 167, 0, 4, 3, 79]
abbrev dktX3_years_4 : List UInt8 := dkwX3_years_4 ++ dktX3_years_5
def dkwX3_years_3 : List UInt8 := [180, 0, 78, 4, 46, 4, 96, 16, 8, 112, 79, 21, 4, 19, 1, 205, 104, 17, 48, 57, 96, 54, 4, 42]
abbrev dktX3_years_3 : List UInt8 := dkwX3_years_3 ++ dktX3_years_4
def dkwX3_years_2 : List UInt8 := [54, 5, 3, 54, 6, 3, 54, 7, 3, 54, 8, 21, 8, 28, 162, 0, 116, 42, 180, 0, 78, 4, 42]
abbrev dktX3_years_2 : List UInt8 := dkwX3_years_2 ++ dktX3_years_3
def dkwX3_years_1 : List UInt8 := [182, 1, 50, 154, 0, 5, 3, 172, 42, 42, 180, 0, 78, 42, 180, 0, 81, 182, 1, 72, 27, 54, 4, 3]
abbrev dktX3_years_1 : List UInt8 := dkwX3_years_1 ++ dktX3_years_2
def dkwX3_years_0 : List UInt8 := [42, 3, 181, 0, 147, 42, 29, 5, 182, 1, 139, 153, 0, 18, 42, 28, 3, 16, 60, 184, 1, 129, 5]
abbrev dktX3_years_0 : List UInt8 := dkwX3_years_0 ++ dktX3_years_1
theorem dksX3_years_0 : cX3_years.data.toList.drop 0 = dktX3_years_0 := by decide +kernel
theorem dksX3_years_1 : cX3_years.data.toList.drop 23 = dktX3_years_1 := dk_seg dksX3_years_0 23 rfl rfl
theorem dksX3_years_2 : cX3_years.data.toList.drop 47 = dktX3_years_2 := dk_seg dksX3_years_1 24 rfl rfl
theorem dksX3_years_3 : cX3_years.data.toList.drop 70 = dktX3_years_3 := dk_seg dksX3_years_2 23 rfl rfl
theorem dksX3_years_4 : cX3_years.data.toList.drop 94 = dktX3_years_4 := dk_seg dksX3_years_3 24 rfl rfl
theorem dksX3_years_5 : cX3_years.data.toList.drop 118 = dktX3_years_5 := dk_seg dksX3_years_4 24 rfl rfl
theorem dksX3_years_6 : cX3_years.data.toList.drop 140 = dktX3_years_6 := dk_seg dksX3_years_5 22 rfl rfl
theorem dksX3_years_7 : cX3_years.data.toList.drop 164 = dktX3_years_7 := dk_seg dksX3_years_6 24 rfl rfl
theorem dksX3_years_8 : cX3_years.data.toList.drop 186 = dktX3_years_8 := dk_seg dksX3_years_7 22 rfl rfl
theorem dksX3_years_9 : cX3_years.data.toList.drop 210 = dktX3_years_9 := dk_seg dksX3_years_8 24 rfl rfl
theorem dX3_years_0 : decode cX3_years 0 = .ok (.aload_n 0, 1) := dk_42 (dk_at dksX3_years_0 0 rfl rfl)
theorem dX3_years_1 : decode cX3_years 1 = .ok (.iconst 0, 1) := dk_3 (dk_at dksX3_years_0 1 rfl rfl)
theorem dX3_years_2 : decode cX3_years 2 = .ok (.putfield 147, 3) := dk_181 0 147 (dk_at dksX3_years_0 2 rfl rfl)
theorem dX3_years_5 : decode cX3_years 5 = .ok (.aload_n 0, 1) := dk_42 (dk_at dksX3_years_0 5 rfl rfl)
theorem dX3_years_6 : decode cX3_years 6 = .ok (.iload_n 3, 1) := dk_29 (dk_at dksX3_years_0 6 rfl rfl)
theorem dX3_years_7 : decode cX3_years 7 = .ok (.iconst 2, 1) := dk_5 (dk_at dksX3_years_0 7 rfl rfl)
theorem dX3_years_8 : decode cX3_years 8 = .ok (.invokevirtual 395, 3) := dk_182 1 139 (dk_at dksX3_years_0 8 rfl rfl)
theorem dX3_years_11 : decode cX3_years 11 = .ok (.ifCond .eq 18, 3) := dk_153 0 18 (dk_at dksX3_years_0 11 rfl rfl)
theorem dX3_years_14 : decode cX3_years 14 = .ok (.aload_n 0, 1) := dk_42 (dk_at dksX3_years_0 14 rfl rfl)
theorem dX3_years_15 : decode cX3_years 15 = .ok (.iload_n 2, 1) := dk_28 (dk_at dksX3_years_0 15 rfl rfl)
theorem dX3_years_16 : decode cX3_years 16 = .ok (.iconst 0, 1) := dk_3 (dk_at dksX3_years_0 16 rfl rfl)
theorem dX3_years_17 : decode cX3_years 17 = .ok (.bipush 60, 2) := dk_16 60 (dk_at dksX3_years_0 17 rfl rfl)
theorem dX3_years_19 : decode cX3_years 19 = .ok (.invokestatic 385, 3) := dk_184 1 129 (dk_at dksX3_years_0 19 rfl rfl)
theorem dX3_years_22 : decode cX3_years 22 = .ok (.iconst 2, 1) := dk_5 (dk_at dksX3_years_0 22 rfl rfl)
theorem dX3_years_23 : decode cX3_years 23 = .ok (.invokevirtual 306, 3) := dk_182 1 50 (dk_at dksX3_years_1 0 rfl rfl)
theorem dX3_years_26 : decode cX3_years 26 = .ok (.ifCond .ne 5, 3) := dk_154 0 5 (dk_at dksX3_years_1 3 rfl rfl)
theorem dX3_years_29 : decode cX3_years 29 = .ok (.iconst 0, 1) := dk_3 (dk_at dksX3_years_1 6 rfl rfl)
theorem dX3_years_30 : decode cX3_years 30 = .ok (.ireturn, 1) := dk_172 (dk_at dksX3_years_1 7 rfl rfl)
theorem dX3_years_31 : decode cX3_years 31 = .ok (.aload_n 0, 1) := dk_42 (dk_at dksX3_years_1 8 rfl rfl)
theorem dX3_years_32 : decode cX3_years 32 = .ok (.aload_n 0, 1) := dk_42 (dk_at dksX3_years_1 9 rfl rfl)
theorem dX3_years_33 : decode cX3_years 33 = .ok (.getfield 78, 3) := dk_180 0 78 (dk_at dksX3_years_1 10 rfl rfl)
theorem dX3_years_36 : decode cX3_years 36 = .ok (.aload_n 0, 1) := dk_42 (dk_at dksX3_years_1 13 rfl rfl)
theorem dX3_years_37 : decode cX3_years 37 = .ok (.getfield 81, 3) := dk_180 0 81 (dk_at dksX3_years_1 14 rfl rfl)
theorem dX3_years_40 : decode cX3_years 40 = .ok (.invokevirtual 328, 3) := dk_182 1 72 (dk_at dksX3_years_1 17 rfl rfl)
theorem dX3_years_43 : decode cX3_years 43 = .ok (.iload_n 1, 1) := dk_27 (dk_at dksX3_years_1 20 rfl rfl)
theorem dX3_years_44 : decode cX3_years 44 = .ok (.istore 4, 2) := dk_54 4 (dk_at dksX3_years_1 21 rfl rfl)
theorem dX3_years_46 : decode cX3_years 46 = .ok (.iconst 0, 1) := dk_3 (dk_at dksX3_years_1 23 rfl rfl)
theorem dX3_years_47 : decode cX3_years 47 = .ok (.istore 5, 2) := dk_54 5 (dk_at dksX3_years_2 0 rfl rfl)
theorem dX3_years_49 : decode cX3_years 49 = .ok (.iconst 0, 1) := dk_3 (dk_at dksX3_years_2 2 rfl rfl)
theorem dX3_years_50 : decode cX3_years 50 = .ok (.istore 6, 2) := dk_54 6 (dk_at dksX3_years_2 3 rfl rfl)
theorem dX3_years_52 : decode cX3_years 52 = .ok (.iconst 0, 1) := dk_3 (dk_at dksX3_years_2 5 rfl rfl)
theorem dX3_years_53 : decode cX3_years 53 = .ok (.istore 7, 2) := dk_54 7 (dk_at dksX3_years_2 6 rfl rfl)
theorem dX3_years_55 : decode cX3_years 55 = .ok (.iconst 0, 1) := dk_3 (dk_at dksX3_years_2 8 rfl rfl)
theorem dX3_years_56 : decode cX3_years 56 = .ok (.istore 8, 2) := dk_54 8 (dk_at dksX3_years_2 9 rfl rfl)
theorem dX3_years_58 : decode cX3_years 58 = .ok (.iload 8, 2) := dk_21 8 (dk_at dksX3_years_2 11 rfl rfl)
theorem dX3_years_60 : decode cX3_years 60 = .ok (.iload_n 2, 1) := dk_28 (dk_at dksX3_years_2 13 rfl rfl)
theorem dX3_years_61 : decode cX3_years 61 = .ok (.if_icmp .ge 116, 3) := dk_162 0 116 (dk_at dksX3_years_2 14 rfl rfl)
theorem dX3_years_64 : decode cX3_years 64 = .ok (.aload_n 0, 1) := dk_42 (dk_at dksX3_years_2 17 rfl rfl)
theorem dX3_years_65 : decode cX3_years 65 = .ok (.getfield 78, 3) := dk_180 0 78 (dk_at dksX3_years_2 18 rfl rfl)
theorem dX3_years_68 : decode cX3_years 68 = .ok (.iconst 1, 1) := dk_4 (dk_at dksX3_years_2 21 rfl rfl)
theorem dX3_years_69 : decode cX3_years 69 = .ok (.aload_n 0, 1) := dk_42 (dk_at dksX3_years_2 22 rfl rfl)
theorem dX3_years_70 : decode cX3_years 70 = .ok (.getfield 78, 3) := dk_180 0 78 (dk_at dksX3_years_3 0 rfl rfl)
theorem dX3_years_73 : decode cX3_years 73 = .ok (.iconst 1, 1) := dk_4 (dk_at dksX3_years_3 3 rfl rfl)
theorem dX3_years_74 : decode cX3_years 74 = .ok (.iaload, 1) := dk_46 (dk_at dksX3_years_3 4 rfl rfl)
theorem dX3_years_75 : decode cX3_years 75 = .ok (.iconst 1, 1) := dk_4 (dk_at dksX3_years_3 5 rfl rfl)
theorem dX3_years_76 : decode cX3_years 76 = .ok (.iadd, 1) := dk_96 (dk_at dksX3_years_3 6 rfl rfl)
theorem dX3_years_77 : decode cX3_years 77 = .ok (.bipush 8, 2) := dk_16 8 (dk_at dksX3_years_3 7 rfl rfl)
theorem dX3_years_79 : decode cX3_years 79 = .ok (.irem, 1) := dk_112 (dk_at dksX3_years_3 9 rfl rfl)
theorem dX3_years_80 : decode cX3_years 80 = .ok (.iastore, 1) := dk_79 (dk_at dksX3_years_3 10 rfl rfl)
theorem dX3_years_81 : decode cX3_years 81 = .ok (.iload 4, 2) := dk_21 4 (dk_at dksX3_years_3 11 rfl rfl)
theorem dX3_years_83 : decode cX3_years 83 = .ok (.ldc_w 461, 3) := dk_19 1 205 (dk_at dksX3_years_3 13 rfl rfl)
theorem dX3_years_86 : decode cX3_years 86 = .ok (.imul, 1) := dk_104 (dk_at dksX3_years_3 16 rfl rfl)
theorem dX3_years_87 : decode cX3_years 87 = .ok (.sipush 12345, 3) := dk_17 48 57 (dk_at dksX3_years_3 17 rfl rfl)
theorem dX3_years_90 : decode cX3_years 90 = .ok (.iadd, 1) := dk_96 (dk_at dksX3_years_3 20 rfl rfl)
theorem dX3_years_91 : decode cX3_years 91 = .ok (.istore 4, 2) := dk_54 4 (dk_at dksX3_years_3 21 rfl rfl)
theorem dX3_years_93 : decode cX3_years 93 = .ok (.aload_n 0, 1) := dk_42 (dk_at dksX3_years_3 23 rfl rfl)
theorem dX3_years_94 : decode cX3_years 94 = .ok (.getfield 78, 3) := dk_180 0 78 (dk_at dksX3_years_4 0 rfl rfl)
theorem dX3_years_97 : decode cX3_years 97 = .ok (.iconst 2, 1) := dk_5 (dk_at dksX3_years_4 3 rfl rfl)
theorem dX3_years_98 : decode cX3_years 98 = .ok (.iload 4, 2) := dk_21 4 (dk_at dksX3_years_4 4 rfl rfl)
theorem dX3_years_100 : decode cX3_years 100 = .ok (.bipush 16, 2) := dk_16 16 (dk_at dksX3_years_4 6 rfl rfl)
theorem dX3_years_102 : decode cX3_years 102 = .ok (.ishr, 1) := dk_122 (dk_at dksX3_years_4 8 rfl rfl)
theorem dX3_years_103 : decode cX3_years 103 = .ok (.sipush 32767, 3) := dk_17 127 255 (dk_at dksX3_years_4 9 rfl rfl)
theorem dX3_years_106 : decode cX3_years 106 = .ok (.iand, 1) := dk_126 (dk_at dksX3_years_4 12 rfl rfl)
theorem dX3_years_107 : decode cX3_years 107 = .ok (.iconst 4, 1) := dk_7 (dk_at dksX3_years_4 13 rfl rfl)
theorem dX3_years_108 : decode cX3_years 108 = .ok (.irem, 1) := dk_112 (dk_at dksX3_years_4 14 rfl rfl)
theorem dX3_years_109 : decode cX3_years 109 = .ok (.ifCond .ne 7, 3) := dk_154 0 7 (dk_at dksX3_years_4 15 rfl rfl)
theorem dX3_years_112 : decode cX3_years 112 = .ok (.iconst 1, 1) := dk_4 (dk_at dksX3_years_4 18 rfl rfl)
theorem dX3_years_113 : decode cX3_years 113 = .ok (.goto 4, 3) := dk_167 0 4 (dk_at dksX3_years_4 19 rfl rfl)
theorem dX3_years_116 : decode cX3_years 116 = .ok (.iconst 0, 1) := dk_3 (dk_at dksX3_years_4 22 rfl rfl)
theorem dX3_years_117 : decode cX3_years 117 = .ok (.iastore, 1) := dk_79 (dk_at dksX3_years_4 23 rfl rfl)
theorem dX3_years_118 : decode cX3_years 118 = .ok (.aload_n 0, 1) := dk_42 (dk_at dksX3_years_5 0 rfl rfl)
theorem dX3_years_119 : decode cX3_years 119 = .ok (.invokevirtual 389, 3) := dk_182 1 133 (dk_at dksX3_years_5 1 rfl rfl)
theorem dX3_years_122 : decode cX3_years 122 = .ok (.istore 9, 2) := dk_54 9 (dk_at dksX3_years_5 4 rfl rfl)
theorem dX3_years_124 : decode cX3_years 124 = .ok (.iload 5, 2) := dk_21 5 (dk_at dksX3_years_5 6 rfl rfl)
theorem dX3_years_126 : decode cX3_years 126 = .ok (.iload 9, 2) := dk_21 9 (dk_at dksX3_years_5 8 rfl rfl)
theorem dX3_years_128 : decode cX3_years 128 = .ok (.iadd, 1) := dk_96 (dk_at dksX3_years_5 10 rfl rfl)
theorem dX3_years_129 : decode cX3_years 129 = .ok (.istore 5, 2) := dk_54 5 (dk_at dksX3_years_5 11 rfl rfl)
theorem dX3_years_131 : decode cX3_years 131 = .ok (.iload 8, 2) := dk_21 8 (dk_at dksX3_years_5 13 rfl rfl)
theorem dX3_years_133 : decode cX3_years 133 = .ok (.ifCond .eq 10, 3) := dk_153 0 10 (dk_at dksX3_years_5 15 rfl rfl)
theorem dX3_years_136 : decode cX3_years 136 = .ok (.iload 9, 2) := dk_21 9 (dk_at dksX3_years_5 18 rfl rfl)
theorem dX3_years_138 : decode cX3_years 138 = .ok (.iload 6, 2) := dk_21 6 (dk_at dksX3_years_5 20 rfl rfl)
theorem dX3_years_140 : decode cX3_years 140 = .ok (.if_icmp .ge 8, 3) := dk_162 0 8 (dk_at dksX3_years_6 0 rfl rfl)
theorem dX3_years_143 : decode cX3_years 143 = .ok (.iload 9, 2) := dk_21 9 (dk_at dksX3_years_6 3 rfl rfl)
theorem dX3_years_145 : decode cX3_years 145 = .ok (.goto 5, 3) := dk_167 0 5 (dk_at dksX3_years_6 5 rfl rfl)
theorem dX3_years_148 : decode cX3_years 148 = .ok (.iload 6, 2) := dk_21 6 (dk_at dksX3_years_6 8 rfl rfl)
theorem dX3_years_150 : decode cX3_years 150 = .ok (.istore 6, 2) := dk_54 6 (dk_at dksX3_years_6 10 rfl rfl)
theorem dX3_years_152 : decode cX3_years 152 = .ok (.iload 7, 2) := dk_21 7 (dk_at dksX3_years_6 12 rfl rfl)
theorem dX3_years_154 : decode cX3_years 154 = .ok (.iload 9, 2) := dk_21 9 (dk_at dksX3_years_6 14 rfl rfl)
theorem dX3_years_156 : decode cX3_years 156 = .ok (.aload_n 0, 1) := dk_42 (dk_at dksX3_years_6 16 rfl rfl)
theorem dX3_years_157 : decode cX3_years 157 = .ok (.getfield 322, 3) := dk_180 1 66 (dk_at dksX3_years_6 17 rfl rfl)
theorem dX3_years_160 : decode cX3_years 160 = .ok (.if_icmp .ne 7, 3) := dk_160 0 7 (dk_at dksX3_years_6 20 rfl rfl)
theorem dX3_years_163 : decode cX3_years 163 = .ok (.iconst 1, 1) := dk_4 (dk_at dksX3_years_6 23 rfl rfl)
theorem dX3_years_164 : decode cX3_years 164 = .ok (.goto 4, 3) := dk_167 0 4 (dk_at dksX3_years_7 0 rfl rfl)
theorem dX3_years_167 : decode cX3_years 167 = .ok (.iconst 0, 1) := dk_3 (dk_at dksX3_years_7 3 rfl rfl)
theorem dX3_years_168 : decode cX3_years 168 = .ok (.iadd, 1) := dk_96 (dk_at dksX3_years_7 4 rfl rfl)
theorem dX3_years_169 : decode cX3_years 169 = .ok (.istore 7, 2) := dk_54 7 (dk_at dksX3_years_7 5 rfl rfl)
theorem dX3_years_171 : decode cX3_years 171 = .ok (.iinc 8 1, 3) := dk_132 8 1 (dk_at dksX3_years_7 7 rfl rfl)
theorem dX3_years_174 : decode cX3_years 174 = .ok (.goto (-116), 3) := dk_167 255 140 (dk_at dksX3_years_7 10 rfl rfl)
theorem dX3_years_177 : decode cX3_years 177 = .ok (.aload_n 0, 1) := dk_42 (dk_at dksX3_years_7 13 rfl rfl)
theorem dX3_years_178 : decode cX3_years 178 = .ok (.aload_n 0, 1) := dk_42 (dk_at dksX3_years_7 14 rfl rfl)
theorem dX3_years_179 : decode cX3_years 179 = .ok (.getfield 81, 3) := dk_180 0 81 (dk_at dksX3_years_7 15 rfl rfl)
theorem dX3_years_182 : decode cX3_years 182 = .ok (.aload_n 0, 1) := dk_42 (dk_at dksX3_years_7 18 rfl rfl)
theorem dX3_years_183 : decode cX3_years 183 = .ok (.getfield 78, 3) := dk_180 0 78 (dk_at dksX3_years_7 19 rfl rfl)
theorem dX3_years_186 : decode cX3_years 186 = .ok (.invokevirtual 328, 3) := dk_182 1 72 (dk_at dksX3_years_8 0 rfl rfl)
theorem dX3_years_189 : decode cX3_years 189 = .ok (.iload_n 3, 1) := dk_29 (dk_at dksX3_years_8 3 rfl rfl)
theorem dX3_years_190 : decode cX3_years 190 = .ok (.ifCond .ne 8, 3) := dk_154 0 8 (dk_at dksX3_years_8 4 rfl rfl)
theorem dX3_years_193 : decode cX3_years 193 = .ok (.iload 5, 2) := dk_21 5 (dk_at dksX3_years_8 7 rfl rfl)
theorem dX3_years_195 : decode cX3_years 195 = .ok (.goto 15, 3) := dk_167 0 15 (dk_at dksX3_years_8 9 rfl rfl)
theorem dX3_years_198 : decode cX3_years 198 = .ok (.iload_n 3, 1) := dk_29 (dk_at dksX3_years_8 12 rfl rfl)
theorem dX3_years_199 : decode cX3_years 199 = .ok (.iconst 1, 1) := dk_4 (dk_at dksX3_years_8 13 rfl rfl)
theorem dX3_years_200 : decode cX3_years 200 = .ok (.if_icmp .ne 8, 3) := dk_160 0 8 (dk_at dksX3_years_8 14 rfl rfl)
theorem dX3_years_203 : decode cX3_years 203 = .ok (.iload 6, 2) := dk_21 6 (dk_at dksX3_years_8 17 rfl rfl)
theorem dX3_years_205 : decode cX3_years 205 = .ok (.goto 5, 3) := dk_167 0 5 (dk_at dksX3_years_8 19 rfl rfl)
theorem dX3_years_208 : decode cX3_years 208 = .ok (.iload 7, 2) := dk_21 7 (dk_at dksX3_years_8 22 rfl rfl)
theorem dX3_years_210 : decode cX3_years 210 = .ok (.ireturn, 1) := dk_172 (dk_at dksX3_years_9 0 rfl rfl)
abbrev cX3_image : ByteArray := prog_14_method_110_code
def yX3_image : MethodName := ⟨RX3, "image", "()V"⟩
def dkwX3_image_2 : List UInt8 := [182, 1, 72, 42, 42, 180, 0, 132, 42, 180, 0, 144, 182, 1, 72, 177]
abbrev dktX3_image_2 : List UInt8 := dkwX3_image_2 ++ []
def dkwX3_image_1 : List UInt8 := [181, 1, 209, 42, 42, 180, 0, 78, 42, 180, 0, 138, 182, 1, 72, 42, 42, 180, 0, 84, 42, 180, 0, 141]
abbrev dktX3_image_1 : List UInt8 := dkwX3_image_1 ++ dktX3_image_2
def dkwX3_image_0 : List UInt8 := [42, 3, 181, 0, 147, 42, 4, 181, 1, 89, 42, 42, 180, 1, 79, 181, 1, 206, 42, 42, 180, 1, 82]
abbrev dktX3_image_0 : List UInt8 := dkwX3_image_0 ++ dktX3_image_1
theorem dksX3_image_0 : cX3_image.data.toList.drop 0 = dktX3_image_0 := by decide +kernel
theorem dksX3_image_1 : cX3_image.data.toList.drop 23 = dktX3_image_1 := dk_seg dksX3_image_0 23 rfl rfl
theorem dksX3_image_2 : cX3_image.data.toList.drop 47 = dktX3_image_2 := dk_seg dksX3_image_1 24 rfl rfl
theorem dX3_image_0 : decode cX3_image 0 = .ok (.aload_n 0, 1) := dk_42 (dk_at dksX3_image_0 0 rfl rfl)
theorem dX3_image_1 : decode cX3_image 1 = .ok (.iconst 0, 1) := dk_3 (dk_at dksX3_image_0 1 rfl rfl)
theorem dX3_image_2 : decode cX3_image 2 = .ok (.putfield 147, 3) := dk_181 0 147 (dk_at dksX3_image_0 2 rfl rfl)
theorem dX3_image_5 : decode cX3_image 5 = .ok (.aload_n 0, 1) := dk_42 (dk_at dksX3_image_0 5 rfl rfl)
theorem dX3_image_6 : decode cX3_image 6 = .ok (.iconst 1, 1) := dk_4 (dk_at dksX3_image_0 6 rfl rfl)
theorem dX3_image_7 : decode cX3_image 7 = .ok (.putfield 345, 3) := dk_181 1 89 (dk_at dksX3_image_0 7 rfl rfl)
theorem dX3_image_10 : decode cX3_image 10 = .ok (.aload_n 0, 1) := dk_42 (dk_at dksX3_image_0 10 rfl rfl)
theorem dX3_image_11 : decode cX3_image 11 = .ok (.aload_n 0, 1) := dk_42 (dk_at dksX3_image_0 11 rfl rfl)
theorem dX3_image_12 : decode cX3_image 12 = .ok (.getfield 335, 3) := dk_180 1 79 (dk_at dksX3_image_0 12 rfl rfl)
theorem dX3_image_15 : decode cX3_image 15 = .ok (.putfield 462, 3) := dk_181 1 206 (dk_at dksX3_image_0 15 rfl rfl)
theorem dX3_image_18 : decode cX3_image 18 = .ok (.aload_n 0, 1) := dk_42 (dk_at dksX3_image_0 18 rfl rfl)
theorem dX3_image_19 : decode cX3_image 19 = .ok (.aload_n 0, 1) := dk_42 (dk_at dksX3_image_0 19 rfl rfl)
theorem dX3_image_20 : decode cX3_image 20 = .ok (.getfield 338, 3) := dk_180 1 82 (dk_at dksX3_image_0 20 rfl rfl)
theorem dX3_image_23 : decode cX3_image 23 = .ok (.putfield 465, 3) := dk_181 1 209 (dk_at dksX3_image_1 0 rfl rfl)
theorem dX3_image_26 : decode cX3_image 26 = .ok (.aload_n 0, 1) := dk_42 (dk_at dksX3_image_1 3 rfl rfl)
theorem dX3_image_27 : decode cX3_image 27 = .ok (.aload_n 0, 1) := dk_42 (dk_at dksX3_image_1 4 rfl rfl)
theorem dX3_image_28 : decode cX3_image 28 = .ok (.getfield 78, 3) := dk_180 0 78 (dk_at dksX3_image_1 5 rfl rfl)
theorem dX3_image_31 : decode cX3_image 31 = .ok (.aload_n 0, 1) := dk_42 (dk_at dksX3_image_1 8 rfl rfl)
theorem dX3_image_32 : decode cX3_image 32 = .ok (.getfield 138, 3) := dk_180 0 138 (dk_at dksX3_image_1 9 rfl rfl)
theorem dX3_image_35 : decode cX3_image 35 = .ok (.invokevirtual 328, 3) := dk_182 1 72 (dk_at dksX3_image_1 12 rfl rfl)
theorem dX3_image_38 : decode cX3_image 38 = .ok (.aload_n 0, 1) := dk_42 (dk_at dksX3_image_1 15 rfl rfl)
theorem dX3_image_39 : decode cX3_image 39 = .ok (.aload_n 0, 1) := dk_42 (dk_at dksX3_image_1 16 rfl rfl)
theorem dX3_image_40 : decode cX3_image 40 = .ok (.getfield 84, 3) := dk_180 0 84 (dk_at dksX3_image_1 17 rfl rfl)
theorem dX3_image_43 : decode cX3_image 43 = .ok (.aload_n 0, 1) := dk_42 (dk_at dksX3_image_1 20 rfl rfl)
theorem dX3_image_44 : decode cX3_image 44 = .ok (.getfield 141, 3) := dk_180 0 141 (dk_at dksX3_image_1 21 rfl rfl)
theorem dX3_image_47 : decode cX3_image 47 = .ok (.invokevirtual 328, 3) := dk_182 1 72 (dk_at dksX3_image_2 0 rfl rfl)
theorem dX3_image_50 : decode cX3_image 50 = .ok (.aload_n 0, 1) := dk_42 (dk_at dksX3_image_2 3 rfl rfl)
theorem dX3_image_51 : decode cX3_image 51 = .ok (.aload_n 0, 1) := dk_42 (dk_at dksX3_image_2 4 rfl rfl)
theorem dX3_image_52 : decode cX3_image 52 = .ok (.getfield 132, 3) := dk_180 0 132 (dk_at dksX3_image_2 5 rfl rfl)
theorem dX3_image_55 : decode cX3_image 55 = .ok (.aload_n 0, 1) := dk_42 (dk_at dksX3_image_2 8 rfl rfl)
theorem dX3_image_56 : decode cX3_image 56 = .ok (.getfield 144, 3) := dk_180 0 144 (dk_at dksX3_image_2 9 rfl rfl)
theorem dX3_image_59 : decode cX3_image 59 = .ok (.invokevirtual 328, 3) := dk_182 1 72 (dk_at dksX3_image_2 12 rfl rfl)
theorem dX3_image_62 : decode cX3_image 62 = .ok (.return_, 1) := dk_177 (dk_at dksX3_image_2 15 rfl rfl)
abbrev cX3_restore : ByteArray := prog_14_method_111_code
def yX3_restore : MethodName := ⟨RX3, "restore", "()Z"⟩
def dkwX3_restore_2 : List UInt8 := [180, 0, 84, 182, 1, 72, 42, 42, 180, 0, 144, 42, 180, 0, 132, 182, 1, 72, 4, 172]
abbrev dktX3_restore_2 : List UInt8 := dkwX3_restore_2 ++ []
def dkwX3_restore_1 : List UInt8 := [180, 1, 209, 181, 1, 82, 42, 42, 180, 0, 138, 42, 180, 0, 78, 182, 1, 72, 42, 42, 180, 0, 141, 42]
abbrev dktX3_restore_1 : List UInt8 := dkwX3_restore_1 ++ dktX3_restore_2
def dkwX3_restore_0 : List UInt8 := [42, 3, 181, 0, 147, 42, 180, 1, 89, 154, 0, 5, 3, 172, 42, 42, 180, 1, 206, 181, 1, 79, 42, 42]
abbrev dktX3_restore_0 : List UInt8 := dkwX3_restore_0 ++ dktX3_restore_1
theorem dksX3_restore_0 : cX3_restore.data.toList.drop 0 = dktX3_restore_0 := by decide +kernel
theorem dksX3_restore_1 : cX3_restore.data.toList.drop 24 = dktX3_restore_1 := dk_seg dksX3_restore_0 24 rfl rfl
theorem dksX3_restore_2 : cX3_restore.data.toList.drop 48 = dktX3_restore_2 := dk_seg dksX3_restore_1 24 rfl rfl
theorem dX3_restore_0 : decode cX3_restore 0 = .ok (.aload_n 0, 1) := dk_42 (dk_at dksX3_restore_0 0 rfl rfl)
theorem dX3_restore_1 : decode cX3_restore 1 = .ok (.iconst 0, 1) := dk_3 (dk_at dksX3_restore_0 1 rfl rfl)
theorem dX3_restore_2 : decode cX3_restore 2 = .ok (.putfield 147, 3) := dk_181 0 147 (dk_at dksX3_restore_0 2 rfl rfl)
theorem dX3_restore_5 : decode cX3_restore 5 = .ok (.aload_n 0, 1) := dk_42 (dk_at dksX3_restore_0 5 rfl rfl)
theorem dX3_restore_6 : decode cX3_restore 6 = .ok (.getfield 345, 3) := dk_180 1 89 (dk_at dksX3_restore_0 6 rfl rfl)
theorem dX3_restore_9 : decode cX3_restore 9 = .ok (.ifCond .ne 5, 3) := dk_154 0 5 (dk_at dksX3_restore_0 9 rfl rfl)
theorem dX3_restore_12 : decode cX3_restore 12 = .ok (.iconst 0, 1) := dk_3 (dk_at dksX3_restore_0 12 rfl rfl)
theorem dX3_restore_13 : decode cX3_restore 13 = .ok (.ireturn, 1) := dk_172 (dk_at dksX3_restore_0 13 rfl rfl)
theorem dX3_restore_14 : decode cX3_restore 14 = .ok (.aload_n 0, 1) := dk_42 (dk_at dksX3_restore_0 14 rfl rfl)
theorem dX3_restore_15 : decode cX3_restore 15 = .ok (.aload_n 0, 1) := dk_42 (dk_at dksX3_restore_0 15 rfl rfl)
theorem dX3_restore_16 : decode cX3_restore 16 = .ok (.getfield 462, 3) := dk_180 1 206 (dk_at dksX3_restore_0 16 rfl rfl)
theorem dX3_restore_19 : decode cX3_restore 19 = .ok (.putfield 335, 3) := dk_181 1 79 (dk_at dksX3_restore_0 19 rfl rfl)
theorem dX3_restore_22 : decode cX3_restore 22 = .ok (.aload_n 0, 1) := dk_42 (dk_at dksX3_restore_0 22 rfl rfl)
theorem dX3_restore_23 : decode cX3_restore 23 = .ok (.aload_n 0, 1) := dk_42 (dk_at dksX3_restore_0 23 rfl rfl)
theorem dX3_restore_24 : decode cX3_restore 24 = .ok (.getfield 465, 3) := dk_180 1 209 (dk_at dksX3_restore_1 0 rfl rfl)
theorem dX3_restore_27 : decode cX3_restore 27 = .ok (.putfield 338, 3) := dk_181 1 82 (dk_at dksX3_restore_1 3 rfl rfl)
theorem dX3_restore_30 : decode cX3_restore 30 = .ok (.aload_n 0, 1) := dk_42 (dk_at dksX3_restore_1 6 rfl rfl)
theorem dX3_restore_31 : decode cX3_restore 31 = .ok (.aload_n 0, 1) := dk_42 (dk_at dksX3_restore_1 7 rfl rfl)
theorem dX3_restore_32 : decode cX3_restore 32 = .ok (.getfield 138, 3) := dk_180 0 138 (dk_at dksX3_restore_1 8 rfl rfl)
theorem dX3_restore_35 : decode cX3_restore 35 = .ok (.aload_n 0, 1) := dk_42 (dk_at dksX3_restore_1 11 rfl rfl)
theorem dX3_restore_36 : decode cX3_restore 36 = .ok (.getfield 78, 3) := dk_180 0 78 (dk_at dksX3_restore_1 12 rfl rfl)
theorem dX3_restore_39 : decode cX3_restore 39 = .ok (.invokevirtual 328, 3) := dk_182 1 72 (dk_at dksX3_restore_1 15 rfl rfl)
theorem dX3_restore_42 : decode cX3_restore 42 = .ok (.aload_n 0, 1) := dk_42 (dk_at dksX3_restore_1 18 rfl rfl)
theorem dX3_restore_43 : decode cX3_restore 43 = .ok (.aload_n 0, 1) := dk_42 (dk_at dksX3_restore_1 19 rfl rfl)
theorem dX3_restore_44 : decode cX3_restore 44 = .ok (.getfield 141, 3) := dk_180 0 141 (dk_at dksX3_restore_1 20 rfl rfl)
theorem dX3_restore_47 : decode cX3_restore 47 = .ok (.aload_n 0, 1) := dk_42 (dk_at dksX3_restore_1 23 rfl rfl)
theorem dX3_restore_48 : decode cX3_restore 48 = .ok (.getfield 84, 3) := dk_180 0 84 (dk_at dksX3_restore_2 0 rfl rfl)
theorem dX3_restore_51 : decode cX3_restore 51 = .ok (.invokevirtual 328, 3) := dk_182 1 72 (dk_at dksX3_restore_2 3 rfl rfl)
theorem dX3_restore_54 : decode cX3_restore 54 = .ok (.aload_n 0, 1) := dk_42 (dk_at dksX3_restore_2 6 rfl rfl)
theorem dX3_restore_55 : decode cX3_restore 55 = .ok (.aload_n 0, 1) := dk_42 (dk_at dksX3_restore_2 7 rfl rfl)
theorem dX3_restore_56 : decode cX3_restore 56 = .ok (.getfield 144, 3) := dk_180 0 144 (dk_at dksX3_restore_2 8 rfl rfl)
theorem dX3_restore_59 : decode cX3_restore 59 = .ok (.aload_n 0, 1) := dk_42 (dk_at dksX3_restore_2 11 rfl rfl)
theorem dX3_restore_60 : decode cX3_restore 60 = .ok (.getfield 132, 3) := dk_180 0 132 (dk_at dksX3_restore_2 12 rfl rfl)
theorem dX3_restore_63 : decode cX3_restore 63 = .ok (.invokevirtual 328, 3) := dk_182 1 72 (dk_at dksX3_restore_2 15 rfl rfl)
theorem dX3_restore_66 : decode cX3_restore 66 = .ok (.iconst 1, 1) := dk_4 (dk_at dksX3_restore_2 18 rfl rfl)
theorem dX3_restore_67 : decode cX3_restore 67 = .ok (.ireturn, 1) := dk_172 (dk_at dksX3_restore_2 19 rfl rfl)
theorem q116 : (Jvm.Cond.initialized "WingTramsModel") ∈ lw_all := lw_g (lw_at lw_m1 6 rfl) rfl
theorem q378 : (Jvm.Cond.selects "WingTramsModel" ({ cls := "java/lang/Object", name := "getClass", desc := "()Ljava/lang/Class;" } : Jvm.MethodName) ({ cls := "java/lang/Object", name := "getClass", desc := "()Ljava/lang/Class;" } : Jvm.MethodName)) ∈ lw_all := lw_g (lw_at lw_m2 28 rfl) rfl
theorem q1599 : (Jvm.Cond.instantiable "WingTramsModel" (76 : Nat)) ∈ lw_all := lw_g (lw_at lw_m7 49 rfl) rfl
theorem q1601 : (Jvm.Cond.instanceMethod ({ cls := "WingTramsModel", name := "<init>", desc := "()V" } : Jvm.MethodName)) ∈ lw_all := lw_g (lw_at lw_m7 51 rfl) rfl
theorem q1602 : (Jvm.Cond.code ({ cls := "WingTramsModel", name := "<init>", desc := "()V" } : Jvm.MethodName) prog_14_method_1_code (1 : Nat) (Option.none : Option Jvm.ClassFile.FieldType)) ∈ lw_all := lw_g (lw_at lw_m7 52 rfl) rfl
theorem q1603 : (Jvm.Cond.methodLink "WingTramsModel" (1 : Nat) ({ cls := "java/lang/Object", name := "<init>", desc := "()V" } : Jvm.MethodName)) ∈ lw_all := lw_g (lw_at lw_m7 53 rfl) rfl
theorem q1604 : (Jvm.Cond.fieldLink "WingTramsModel" (147 : Nat) "WingTramsModel" "thrown" "I") ∈ lw_all := lw_g (lw_at lw_m7 54 rfl) rfl
theorem q1605 : (Jvm.Cond.fieldLink "WingTramsModel" (313 : Nat) "WingTramsModel" "roofs" "I") ∈ lw_all := lw_g (lw_at lw_m7 55 rfl) rfl
theorem q1606 : (Jvm.Cond.fieldLink "WingTramsModel" (316 : Nat) "WingTramsModel" "flights" "I") ∈ lw_all := lw_g (lw_at lw_m7 56 rfl) rfl
theorem q1607 : (Jvm.Cond.fieldLink "WingTramsModel" (319 : Nat) "WingTramsModel" "owls" "I") ∈ lw_all := lw_g (lw_at lw_m7 57 rfl) rfl
theorem q1608 : (Jvm.Cond.fieldLink "WingTramsModel" (322 : Nat) "WingTramsModel" "riders" "I") ∈ lw_all := lw_g (lw_at lw_m7 58 rfl) rfl
theorem q1609 : (Jvm.Cond.fieldLink "WingTramsModel" (325 : Nat) "WingTramsModel" "rules" "I") ∈ lw_all := lw_g (lw_at lw_m7 59 rfl) rfl
theorem q1610 : (Jvm.Cond.fieldLink "WingTramsModel" (7 : Nat) "WingTramsModel" "dawn" "I") ∈ lw_all := lw_g (lw_at lw_m7 60 rfl) rfl
theorem q1611 : (Jvm.Cond.fieldLink "WingTramsModel" (13 : Nat) "WingTramsModel" "flight" "[I") ∈ lw_all := lw_g (lw_at lw_m7 61 rfl) rfl
theorem q1612 : (Jvm.Cond.fieldLink "WingTramsModel" (17 : Nat) "WingTramsModel" "kind" "[I") ∈ lw_all := lw_g (lw_at lw_m7 62 rfl) rfl
theorem q1613 : (Jvm.Cond.fieldLink "WingTramsModel" (20 : Nat) "WingTramsModel" "wayLong" "[I") ∈ lw_all := lw_g (lw_at lw_m7 63 rfl) rfl
theorem q1614 : (Jvm.Cond.fieldLink "WingTramsModel" (23 : Nat) "WingTramsModel" "way" "[I") ∈ lw_all := lw_g (lw_at lw_m7 64 rfl) rfl
theorem q1615 : (Jvm.Cond.fieldLink "WingTramsModel" (26 : Nat) "WingTramsModel" "rider" "[I") ∈ lw_all := lw_g (lw_at lw_m7 65 rfl) rfl
theorem q1616 : (Jvm.Cond.fieldLink "WingTramsModel" (29 : Nat) "WingTramsModel" "ruleAt" "[I") ∈ lw_all := lw_g (lw_at lw_m7 66 rfl) rfl
theorem q1617 : (Jvm.Cond.fieldLink "WingTramsModel" (32 : Nat) "WingTramsModel" "code" "[I") ∈ lw_all := lw_g (lw_at lw_m7 67 rfl) rfl
theorem q1618 : (Jvm.Cond.fieldLink "WingTramsModel" (35 : Nat) "WingTramsModel" "tape" "[I") ∈ lw_all := lw_g (lw_at lw_m7 68 rfl) rfl
theorem q1619 : (Jvm.Cond.fieldLink "WingTramsModel" (150 : Nat) "WingTramsModel" "taped" "I") ∈ lw_all := lw_g (lw_at lw_m7 69 rfl) rfl
theorem q1620 : (Jvm.Cond.fieldLink "WingTramsModel" (203 : Nat) "WingTramsModel" "faultKind" "I") ∈ lw_all := lw_g (lw_at lw_m7 70 rfl) rfl
theorem q1621 : (Jvm.Cond.fieldLink "WingTramsModel" (38 : Nat) "WingTramsModel" "faultPlace" "I") ∈ lw_all := lw_g (lw_at lw_m7 71 rfl) rfl
theorem q1622 : (Jvm.Cond.fieldLink "WingTramsModel" (41 : Nat) "WingTramsModel" "refused" "[I") ∈ lw_all := lw_g (lw_at lw_m7 72 rfl) rfl
theorem q1623 : (Jvm.Cond.fieldLink "WingTramsModel" (157 : Nat) "WingTramsModel" "long1" "I") ∈ lw_all := lw_g (lw_at lw_m7 73 rfl) rfl
theorem q1624 : (Jvm.Cond.fieldLink "WingTramsModel" (160 : Nat) "WingTramsModel" "next" "I") ∈ lw_all := lw_g (lw_at lw_m7 74 rfl) rfl
theorem q1625 : (Jvm.Cond.fieldLink "WingTramsModel" (180 : Nat) "WingTramsModel" "sort" "I") ∈ lw_all := lw_g (lw_at lw_m7 75 rfl) rfl
theorem q1626 : (Jvm.Cond.fieldLink "WingTramsModel" (167 : Nat) "WingTramsModel" "place" "I") ∈ lw_all := lw_g (lw_at lw_m7 76 rfl) rfl
theorem q1627 : (Jvm.Cond.fieldLink "WingTramsModel" (190 : Nat) "WingTramsModel" "long0" "I") ∈ lw_all := lw_g (lw_at lw_m7 77 rfl) rfl
theorem q1628 : (Jvm.Cond.fieldLink "WingTramsModel" (174 : Nat) "WingTramsModel" "value" "I") ∈ lw_all := lw_g (lw_at lw_m7 78 rfl) rfl
theorem q1629 : (Jvm.Cond.fieldLink "WingTramsModel" (177 : Nat) "WingTramsModel" "sign" "I") ∈ lw_all := lw_g (lw_at lw_m7 79 rfl) rfl
theorem q1630 : (Jvm.Cond.fieldLink "WingTramsModel" (170 : Nat) "WingTramsModel" "word" "J") ∈ lw_all := lw_g (lw_at lw_m7 80 rfl) rfl
theorem q1631 : (Jvm.Cond.fieldLink "WingTramsModel" (216 : Nat) "WingTramsModel" "newRoofs" "I") ∈ lw_all := lw_g (lw_at lw_m7 81 rfl) rfl
theorem q1632 : (Jvm.Cond.fieldLink "WingTramsModel" (269 : Nat) "WingTramsModel" "newFlights" "I") ∈ lw_all := lw_g (lw_at lw_m7 82 rfl) rfl
theorem q1633 : (Jvm.Cond.fieldLink "WingTramsModel" (279 : Nat) "WingTramsModel" "newOwls" "I") ∈ lw_all := lw_g (lw_at lw_m7 83 rfl) rfl
theorem q1634 : (Jvm.Cond.fieldLink "WingTramsModel" (282 : Nat) "WingTramsModel" "newRiders" "I") ∈ lw_all := lw_g (lw_at lw_m7 84 rfl) rfl
theorem q1635 : (Jvm.Cond.fieldLink "WingTramsModel" (297 : Nat) "WingTramsModel" "newRules" "I") ∈ lw_all := lw_g (lw_at lw_m7 85 rfl) rfl
theorem q1636 : (Jvm.Cond.fieldLink "WingTramsModel" (294 : Nat) "WingTramsModel" "newDawn" "I") ∈ lw_all := lw_g (lw_at lw_m7 86 rfl) rfl
theorem q1637 : (Jvm.Cond.fieldLink "WingTramsModel" (223 : Nat) "WingTramsModel" "top" "I") ∈ lw_all := lw_g (lw_at lw_m7 87 rfl) rfl
theorem q1638 : (Jvm.Cond.fieldLink "WingTramsModel" (226 : Nat) "WingTramsModel" "waiting" "I") ∈ lw_all := lw_g (lw_at lw_m7 88 rfl) rfl
theorem q1639 : (Jvm.Cond.fieldLink "WingTramsModel" (241 : Nat) "WingTramsModel" "depth" "I") ∈ lw_all := lw_g (lw_at lw_m7 89 rfl) rfl
theorem q1640 : (Jvm.Cond.fieldLink "WingTramsModel" (44 : Nat) "WingTramsModel" "newGrain" "[I") ∈ lw_all := lw_g (lw_at lw_m7 90 rfl) rfl
theorem q1641 : (Jvm.Cond.fieldLink "WingTramsModel" (47 : Nat) "WingTramsModel" "newFlight" "[I") ∈ lw_all := lw_g (lw_at lw_m7 91 rfl) rfl
theorem q1642 : (Jvm.Cond.fieldLink "WingTramsModel" (50 : Nat) "WingTramsModel" "newKind" "[I") ∈ lw_all := lw_g (lw_at lw_m7 92 rfl) rfl
theorem q1643 : (Jvm.Cond.fieldLink "WingTramsModel" (53 : Nat) "WingTramsModel" "newMinute" "[I") ∈ lw_all := lw_g (lw_at lw_m7 93 rfl) rfl
theorem q1644 : (Jvm.Cond.fieldLink "WingTramsModel" (56 : Nat) "WingTramsModel" "newLong" "[I") ∈ lw_all := lw_g (lw_at lw_m7 94 rfl) rfl
theorem q1645 : (Jvm.Cond.fieldLink "WingTramsModel" (59 : Nat) "WingTramsModel" "newWay" "[I") ∈ lw_all := lw_g (lw_at lw_m7 95 rfl) rfl
theorem q1646 : (Jvm.Cond.fieldLink "WingTramsModel" (62 : Nat) "WingTramsModel" "newRider" "[I") ∈ lw_all := lw_g (lw_at lw_m7 96 rfl) rfl
theorem q1647 : (Jvm.Cond.fieldLink "WingTramsModel" (65 : Nat) "WingTramsModel" "newRuleAt" "[I") ∈ lw_all := lw_g (lw_at lw_m7 97 rfl) rfl
theorem q1648 : (Jvm.Cond.fieldLink "WingTramsModel" (68 : Nat) "WingTramsModel" "readCode" "[I") ∈ lw_all := lw_g (lw_at lw_m7 98 rfl) rfl
theorem q1649 : (Jvm.Cond.fieldLink "WingTramsModel" (71 : Nat) "WingTramsModel" "waits" "[I") ∈ lw_all := lw_g (lw_at lw_m7 99 rfl) rfl
theorem q1650 : (Jvm.Cond.fieldLink "WingTramsModel" (74 : Nat) "WingTramsModel" "tested" "[Z") ∈ lw_all := lw_g (lw_at lw_m7 100 rfl) rfl
theorem q1651 : (Jvm.Cond.fieldLink "WingTramsModel" (78 : Nat) "WingTramsModel" "now" "[I") ∈ lw_all := lw_g (lw_at lw_m7 101 rfl) rfl
theorem q1652 : (Jvm.Cond.fieldLink "WingTramsModel" (81 : Nat) "WingTramsModel" "then" "[I") ∈ lw_all := lw_g (lw_at lw_m7 102 rfl) rfl
theorem q1653 : (Jvm.Cond.fieldLink "WingTramsModel" (84 : Nat) "WingTramsModel" "act" "[I") ∈ lw_all := lw_g (lw_at lw_m7 103 rfl) rfl
theorem q1654 : (Jvm.Cond.fieldLink "WingTramsModel" (335 : Nat) "WingTramsModel" "acts" "I") ∈ lw_all := lw_g (lw_at lw_m7 104 rfl) rfl
theorem q1655 : (Jvm.Cond.fieldLink "WingTramsModel" (87 : Nat) "WingTramsModel" "far" "[I") ∈ lw_all := lw_g (lw_at lw_m7 105 rfl) rfl
theorem q1656 : (Jvm.Cond.fieldLink "WingTramsModel" (90 : Nat) "WingTramsModel" "told" "[I") ∈ lw_all := lw_g (lw_at lw_m7 106 rfl) rfl
theorem q1657 : (Jvm.Cond.fieldLink "WingTramsModel" (93 : Nat) "WingTramsModel" "pile" "[I") ∈ lw_all := lw_g (lw_at lw_m7 107 rfl) rfl
theorem q1658 : (Jvm.Cond.fieldLink "WingTramsModel" (96 : Nat) "WingTramsModel" "comes" "[I") ∈ lw_all := lw_g (lw_at lw_m7 108 rfl) rfl
theorem q1659 : (Jvm.Cond.fieldLink "WingTramsModel" (99 : Nat) "WingTramsModel" "leaves" "[I") ∈ lw_all := lw_g (lw_at lw_m7 109 rfl) rfl
theorem q1660 : (Jvm.Cond.fieldLink "WingTramsModel" (102 : Nat) "WingTramsModel" "mice" "[I") ∈ lw_all := lw_g (lw_at lw_m7 110 rfl) rfl
theorem q1661 : (Jvm.Cond.fieldLink "WingTramsModel" (105 : Nat) "WingTramsModel" "caught" "[I") ∈ lw_all := lw_g (lw_at lw_m7 111 rfl) rfl
theorem q1662 : (Jvm.Cond.fieldLink "WingTramsModel" (108 : Nat) "WingTramsModel" "at" "[I") ∈ lw_all := lw_g (lw_at lw_m7 112 rfl) rfl
theorem q1663 : (Jvm.Cond.fieldLink "WingTramsModel" (111 : Nat) "WingTramsModel" "in" "[I") ∈ lw_all := lw_g (lw_at lw_m7 113 rfl) rfl
theorem q1664 : (Jvm.Cond.fieldLink "WingTramsModel" (114 : Nat) "WingTramsModel" "soon" "[I") ∈ lw_all := lw_g (lw_at lw_m7 114 rfl) rfl
theorem q1665 : (Jvm.Cond.fieldLink "WingTramsModel" (117 : Nat) "WingTramsModel" "soonThen" "[I") ∈ lw_all := lw_g (lw_at lw_m7 115 rfl) rfl
theorem q1666 : (Jvm.Cond.fieldLink "WingTramsModel" (120 : Nat) "WingTramsModel" "soonBy" "[I") ∈ lw_all := lw_g (lw_at lw_m7 116 rfl) rfl
theorem q1667 : (Jvm.Cond.fieldLink "WingTramsModel" (123 : Nat) "WingTramsModel" "row" "[I") ∈ lw_all := lw_g (lw_at lw_m7 117 rfl) rfl
theorem q1668 : (Jvm.Cond.fieldLink "WingTramsModel" (126 : Nat) "WingTramsModel" "tried" "[I") ∈ lw_all := lw_g (lw_at lw_m7 118 rfl) rfl
theorem q1669 : (Jvm.Cond.fieldLink "WingTramsModel" (341 : Nat) "WingTramsModel" "hasRow" "Z") ∈ lw_all := lw_g (lw_at lw_m7 119 rfl) rfl
theorem q1670 : (Jvm.Cond.fieldLink "WingTramsModel" (129 : Nat) "WingTramsModel" "hung" "[I") ∈ lw_all := lw_g (lw_at lw_m7 120 rfl) rfl
theorem q1671 : (Jvm.Cond.fieldLink "WingTramsModel" (338 : Nat) "WingTramsModel" "seenMany" "I") ∈ lw_all := lw_g (lw_at lw_m7 121 rfl) rfl
theorem q1672 : (Jvm.Cond.fieldLink "WingTramsModel" (132 : Nat) "WingTramsModel" "seen" "[I") ∈ lw_all := lw_g (lw_at lw_m7 122 rfl) rfl
theorem q1673 : (Jvm.Cond.fieldLink "WingTramsModel" (135 : Nat) "WingTramsModel" "often" "[I") ∈ lw_all := lw_g (lw_at lw_m7 123 rfl) rfl
theorem q1674 : (Jvm.Cond.fieldLink "WingTramsModel" (345 : Nat) "WingTramsModel" "hasImage" "Z") ∈ lw_all := lw_g (lw_at lw_m7 124 rfl) rfl
theorem q1675 : (Jvm.Cond.fieldLink "WingTramsModel" (462 : Nat) "WingTramsModel" "imageActs" "I") ∈ lw_all := lw_g (lw_at lw_m7 125 rfl) rfl
theorem q1676 : (Jvm.Cond.fieldLink "WingTramsModel" (465 : Nat) "WingTramsModel" "imageSeen" "I") ∈ lw_all := lw_g (lw_at lw_m7 126 rfl) rfl
theorem q1677 : (Jvm.Cond.fieldLink "WingTramsModel" (138 : Nat) "WingTramsModel" "imageNow" "[I") ∈ lw_all := lw_g (lw_at lw_m7 127 rfl) rfl
theorem q1678 : (Jvm.Cond.fieldLink "WingTramsModel" (141 : Nat) "WingTramsModel" "imageAct" "[I") ∈ lw_all := lw_g (lw_at lw_m7 128 rfl) rfl
theorem q1679 : (Jvm.Cond.fieldLink "WingTramsModel" (144 : Nat) "WingTramsModel" "imageSees" "[I") ∈ lw_all := lw_g (lw_at lw_m7 129 rfl) rfl
theorem q1680 : (Jvm.Cond.lays "WingTramsModel" "WingTramsModel" "thrown" "I") ∈ lw_all := lw_g (lw_at lw_m7 130 rfl) rfl
theorem q1681 : (Jvm.Cond.soleField "WingTramsModel" "thrown") ∈ lw_all := lw_g (lw_at lw_m7 131 rfl) rfl
theorem q1682 : (Jvm.Cond.lays "WingTramsModel" "WingTramsModel" "roofs" "I") ∈ lw_all := lw_g (lw_at lw_m7 132 rfl) rfl
theorem q1683 : (Jvm.Cond.soleField "WingTramsModel" "roofs") ∈ lw_all := lw_g (lw_at lw_m7 133 rfl) rfl
theorem q1684 : (Jvm.Cond.lays "WingTramsModel" "WingTramsModel" "flights" "I") ∈ lw_all := lw_g (lw_at lw_m7 134 rfl) rfl
theorem q1685 : (Jvm.Cond.soleField "WingTramsModel" "flights") ∈ lw_all := lw_g (lw_at lw_m7 135 rfl) rfl
theorem q1686 : (Jvm.Cond.lays "WingTramsModel" "WingTramsModel" "owls" "I") ∈ lw_all := lw_g (lw_at lw_m7 136 rfl) rfl
theorem q1687 : (Jvm.Cond.soleField "WingTramsModel" "owls") ∈ lw_all := lw_g (lw_at lw_m7 137 rfl) rfl
theorem q1688 : (Jvm.Cond.lays "WingTramsModel" "WingTramsModel" "riders" "I") ∈ lw_all := lw_g (lw_at lw_m7 138 rfl) rfl
theorem q1689 : (Jvm.Cond.soleField "WingTramsModel" "riders") ∈ lw_all := lw_g (lw_at lw_m7 139 rfl) rfl
theorem q1690 : (Jvm.Cond.lays "WingTramsModel" "WingTramsModel" "rules" "I") ∈ lw_all := lw_g (lw_at lw_m7 140 rfl) rfl
theorem q1691 : (Jvm.Cond.soleField "WingTramsModel" "rules") ∈ lw_all := lw_g (lw_at lw_m7 141 rfl) rfl
theorem q1692 : (Jvm.Cond.lays "WingTramsModel" "WingTramsModel" "dawn" "I") ∈ lw_all := lw_g (lw_at lw_m7 142 rfl) rfl
theorem q1693 : (Jvm.Cond.soleField "WingTramsModel" "dawn") ∈ lw_all := lw_g (lw_at lw_m7 143 rfl) rfl
theorem q1694 : (Jvm.Cond.laysFinal "WingTramsModel" "WingTramsModel" "flight" "[I") ∈ lw_all := lw_g (lw_at lw_m7 144 rfl) rfl
theorem q1695 : (Jvm.Cond.soleField "WingTramsModel" "flight") ∈ lw_all := lw_g (lw_at lw_m7 145 rfl) rfl
theorem q1696 : (Jvm.Cond.laysFinal "WingTramsModel" "WingTramsModel" "kind" "[I") ∈ lw_all := lw_g (lw_at lw_m7 146 rfl) rfl
theorem q1697 : (Jvm.Cond.soleField "WingTramsModel" "kind") ∈ lw_all := lw_g (lw_at lw_m7 147 rfl) rfl
theorem q1698 : (Jvm.Cond.laysFinal "WingTramsModel" "WingTramsModel" "wayLong" "[I") ∈ lw_all := lw_g (lw_at lw_m7 148 rfl) rfl
theorem q1699 : (Jvm.Cond.soleField "WingTramsModel" "wayLong") ∈ lw_all := lw_g (lw_at lw_m7 149 rfl) rfl
theorem q1700 : (Jvm.Cond.laysFinal "WingTramsModel" "WingTramsModel" "way" "[I") ∈ lw_all := lw_g (lw_at lw_m7 150 rfl) rfl
theorem q1701 : (Jvm.Cond.soleField "WingTramsModel" "way") ∈ lw_all := lw_g (lw_at lw_m7 151 rfl) rfl
theorem q1702 : (Jvm.Cond.laysFinal "WingTramsModel" "WingTramsModel" "rider" "[I") ∈ lw_all := lw_g (lw_at lw_m7 152 rfl) rfl
theorem q1703 : (Jvm.Cond.soleField "WingTramsModel" "rider") ∈ lw_all := lw_g (lw_at lw_m7 153 rfl) rfl
theorem q1704 : (Jvm.Cond.laysFinal "WingTramsModel" "WingTramsModel" "ruleAt" "[I") ∈ lw_all := lw_g (lw_at lw_m7 154 rfl) rfl
theorem q1705 : (Jvm.Cond.soleField "WingTramsModel" "ruleAt") ∈ lw_all := lw_g (lw_at lw_m7 155 rfl) rfl
theorem q1706 : (Jvm.Cond.laysFinal "WingTramsModel" "WingTramsModel" "code" "[I") ∈ lw_all := lw_g (lw_at lw_m7 156 rfl) rfl
theorem q1707 : (Jvm.Cond.soleField "WingTramsModel" "code") ∈ lw_all := lw_g (lw_at lw_m7 157 rfl) rfl
theorem q1708 : (Jvm.Cond.laysFinal "WingTramsModel" "WingTramsModel" "tape" "[I") ∈ lw_all := lw_g (lw_at lw_m7 158 rfl) rfl
theorem q1709 : (Jvm.Cond.soleField "WingTramsModel" "tape") ∈ lw_all := lw_g (lw_at lw_m7 159 rfl) rfl
theorem q1710 : (Jvm.Cond.lays "WingTramsModel" "WingTramsModel" "taped" "I") ∈ lw_all := lw_g (lw_at lw_m7 160 rfl) rfl
theorem q1711 : (Jvm.Cond.soleField "WingTramsModel" "taped") ∈ lw_all := lw_g (lw_at lw_m7 161 rfl) rfl
theorem q1712 : (Jvm.Cond.lays "WingTramsModel" "WingTramsModel" "faultKind" "I") ∈ lw_all := lw_g (lw_at lw_m7 162 rfl) rfl
theorem q1713 : (Jvm.Cond.soleField "WingTramsModel" "faultKind") ∈ lw_all := lw_g (lw_at lw_m7 163 rfl) rfl
theorem q1714 : (Jvm.Cond.lays "WingTramsModel" "WingTramsModel" "faultPlace" "I") ∈ lw_all := lw_g (lw_at lw_m7 164 rfl) rfl
theorem q1715 : (Jvm.Cond.soleField "WingTramsModel" "faultPlace") ∈ lw_all := lw_g (lw_at lw_m7 165 rfl) rfl
theorem q1716 : (Jvm.Cond.laysFinal "WingTramsModel" "WingTramsModel" "refused" "[I") ∈ lw_all := lw_g (lw_at lw_m7 166 rfl) rfl
theorem q1717 : (Jvm.Cond.soleField "WingTramsModel" "refused") ∈ lw_all := lw_g (lw_at lw_m7 167 rfl) rfl
theorem q1718 : (Jvm.Cond.lays "WingTramsModel" "WingTramsModel" "long1" "I") ∈ lw_all := lw_g (lw_at lw_m7 168 rfl) rfl
theorem q1719 : (Jvm.Cond.soleField "WingTramsModel" "long1") ∈ lw_all := lw_g (lw_at lw_m7 169 rfl) rfl
theorem q1720 : (Jvm.Cond.lays "WingTramsModel" "WingTramsModel" "next" "I") ∈ lw_all := lw_g (lw_at lw_m7 170 rfl) rfl
theorem q1721 : (Jvm.Cond.soleField "WingTramsModel" "next") ∈ lw_all := lw_g (lw_at lw_m7 171 rfl) rfl
theorem q1722 : (Jvm.Cond.lays "WingTramsModel" "WingTramsModel" "sort" "I") ∈ lw_all := lw_g (lw_at lw_m7 172 rfl) rfl
theorem q1723 : (Jvm.Cond.soleField "WingTramsModel" "sort") ∈ lw_all := lw_g (lw_at lw_m7 173 rfl) rfl
theorem q1724 : (Jvm.Cond.lays "WingTramsModel" "WingTramsModel" "place" "I") ∈ lw_all := lw_g (lw_at lw_m7 174 rfl) rfl
theorem q1725 : (Jvm.Cond.soleField "WingTramsModel" "place") ∈ lw_all := lw_g (lw_at lw_m7 175 rfl) rfl
theorem q1726 : (Jvm.Cond.lays "WingTramsModel" "WingTramsModel" "long0" "I") ∈ lw_all := lw_g (lw_at lw_m7 176 rfl) rfl
theorem q1727 : (Jvm.Cond.soleField "WingTramsModel" "long0") ∈ lw_all := lw_g (lw_at lw_m7 177 rfl) rfl
theorem q1728 : (Jvm.Cond.lays "WingTramsModel" "WingTramsModel" "value" "I") ∈ lw_all := lw_g (lw_at lw_m7 178 rfl) rfl
theorem q1729 : (Jvm.Cond.soleField "WingTramsModel" "value") ∈ lw_all := lw_g (lw_at lw_m7 179 rfl) rfl
theorem q1730 : (Jvm.Cond.lays "WingTramsModel" "WingTramsModel" "sign" "I") ∈ lw_all := lw_g (lw_at lw_m7 180 rfl) rfl
theorem q1731 : (Jvm.Cond.soleField "WingTramsModel" "sign") ∈ lw_all := lw_g (lw_at lw_m7 181 rfl) rfl
theorem q1732 : (Jvm.Cond.lays "WingTramsModel" "WingTramsModel" "word" "J") ∈ lw_all := lw_g (lw_at lw_m7 182 rfl) rfl
theorem q1733 : (Jvm.Cond.soleField "WingTramsModel" "word") ∈ lw_all := lw_g (lw_at lw_m7 183 rfl) rfl
theorem q1734 : (Jvm.Cond.lays "WingTramsModel" "WingTramsModel" "newRoofs" "I") ∈ lw_all := lw_g (lw_at lw_m7 184 rfl) rfl
theorem q1735 : (Jvm.Cond.soleField "WingTramsModel" "newRoofs") ∈ lw_all := lw_g (lw_at lw_m7 185 rfl) rfl
theorem q1736 : (Jvm.Cond.lays "WingTramsModel" "WingTramsModel" "newFlights" "I") ∈ lw_all := lw_g (lw_at lw_m7 186 rfl) rfl
theorem q1737 : (Jvm.Cond.soleField "WingTramsModel" "newFlights") ∈ lw_all := lw_g (lw_at lw_m7 187 rfl) rfl
theorem q1738 : (Jvm.Cond.lays "WingTramsModel" "WingTramsModel" "newOwls" "I") ∈ lw_all := lw_g (lw_at lw_m7 188 rfl) rfl
theorem q1739 : (Jvm.Cond.soleField "WingTramsModel" "newOwls") ∈ lw_all := lw_g (lw_at lw_m7 189 rfl) rfl
theorem q1740 : (Jvm.Cond.lays "WingTramsModel" "WingTramsModel" "newRiders" "I") ∈ lw_all := lw_g (lw_at lw_m7 190 rfl) rfl
theorem q1741 : (Jvm.Cond.soleField "WingTramsModel" "newRiders") ∈ lw_all := lw_g (lw_at lw_m7 191 rfl) rfl
theorem q1742 : (Jvm.Cond.lays "WingTramsModel" "WingTramsModel" "newRules" "I") ∈ lw_all := lw_g (lw_at lw_m7 192 rfl) rfl
theorem q1743 : (Jvm.Cond.soleField "WingTramsModel" "newRules") ∈ lw_all := lw_g (lw_at lw_m7 193 rfl) rfl
theorem q1744 : (Jvm.Cond.lays "WingTramsModel" "WingTramsModel" "newDawn" "I") ∈ lw_all := lw_g (lw_at lw_m7 194 rfl) rfl
theorem q1745 : (Jvm.Cond.soleField "WingTramsModel" "newDawn") ∈ lw_all := lw_g (lw_at lw_m7 195 rfl) rfl
theorem q1746 : (Jvm.Cond.lays "WingTramsModel" "WingTramsModel" "top" "I") ∈ lw_all := lw_g (lw_at lw_m7 196 rfl) rfl
theorem q1747 : (Jvm.Cond.soleField "WingTramsModel" "top") ∈ lw_all := lw_g (lw_at lw_m7 197 rfl) rfl
theorem q1748 : (Jvm.Cond.lays "WingTramsModel" "WingTramsModel" "waiting" "I") ∈ lw_all := lw_g (lw_at lw_m7 198 rfl) rfl
theorem q1749 : (Jvm.Cond.soleField "WingTramsModel" "waiting") ∈ lw_all := lw_g (lw_at lw_m7 199 rfl) rfl
theorem q1750 : (Jvm.Cond.lays "WingTramsModel" "WingTramsModel" "depth" "I") ∈ lw_all := lw_g (lw_at lw_m7 200 rfl) rfl
theorem q1751 : (Jvm.Cond.soleField "WingTramsModel" "depth") ∈ lw_all := lw_g (lw_at lw_m7 201 rfl) rfl
theorem q1752 : (Jvm.Cond.laysFinal "WingTramsModel" "WingTramsModel" "newGrain" "[I") ∈ lw_all := lw_g (lw_at lw_m7 202 rfl) rfl
theorem q1753 : (Jvm.Cond.soleField "WingTramsModel" "newGrain") ∈ lw_all := lw_g (lw_at lw_m7 203 rfl) rfl
theorem q1754 : (Jvm.Cond.laysFinal "WingTramsModel" "WingTramsModel" "newFlight" "[I") ∈ lw_all := lw_g (lw_at lw_m7 204 rfl) rfl
theorem q1755 : (Jvm.Cond.soleField "WingTramsModel" "newFlight") ∈ lw_all := lw_g (lw_at lw_m7 205 rfl) rfl
theorem q1756 : (Jvm.Cond.laysFinal "WingTramsModel" "WingTramsModel" "newKind" "[I") ∈ lw_all := lw_g (lw_at lw_m7 206 rfl) rfl
theorem q1757 : (Jvm.Cond.soleField "WingTramsModel" "newKind") ∈ lw_all := lw_g (lw_at lw_m7 207 rfl) rfl
theorem q1758 : (Jvm.Cond.laysFinal "WingTramsModel" "WingTramsModel" "newMinute" "[I") ∈ lw_all := lw_g (lw_at lw_m7 208 rfl) rfl
theorem q1759 : (Jvm.Cond.soleField "WingTramsModel" "newMinute") ∈ lw_all := lw_g (lw_at lw_m7 209 rfl) rfl
theorem q1760 : (Jvm.Cond.laysFinal "WingTramsModel" "WingTramsModel" "newLong" "[I") ∈ lw_all := lw_g (lw_at lw_m7 210 rfl) rfl
theorem q1761 : (Jvm.Cond.soleField "WingTramsModel" "newLong") ∈ lw_all := lw_g (lw_at lw_m7 211 rfl) rfl
theorem q1762 : (Jvm.Cond.laysFinal "WingTramsModel" "WingTramsModel" "newWay" "[I") ∈ lw_all := lw_g (lw_at lw_m7 212 rfl) rfl
theorem q1763 : (Jvm.Cond.soleField "WingTramsModel" "newWay") ∈ lw_all := lw_g (lw_at lw_m7 213 rfl) rfl
theorem q1764 : (Jvm.Cond.laysFinal "WingTramsModel" "WingTramsModel" "newRider" "[I") ∈ lw_all := lw_g (lw_at lw_m7 214 rfl) rfl
theorem q1765 : (Jvm.Cond.soleField "WingTramsModel" "newRider") ∈ lw_all := lw_g (lw_at lw_m7 215 rfl) rfl
theorem q1766 : (Jvm.Cond.laysFinal "WingTramsModel" "WingTramsModel" "newRuleAt" "[I") ∈ lw_all := lw_g (lw_at lw_m7 216 rfl) rfl
theorem q1767 : (Jvm.Cond.soleField "WingTramsModel" "newRuleAt") ∈ lw_all := lw_g (lw_at lw_m7 217 rfl) rfl
theorem q1768 : (Jvm.Cond.laysFinal "WingTramsModel" "WingTramsModel" "readCode" "[I") ∈ lw_all := lw_g (lw_at lw_m7 218 rfl) rfl
theorem q1769 : (Jvm.Cond.soleField "WingTramsModel" "readCode") ∈ lw_all := lw_g (lw_at lw_m7 219 rfl) rfl
theorem q1770 : (Jvm.Cond.laysFinal "WingTramsModel" "WingTramsModel" "waits" "[I") ∈ lw_all := lw_g (lw_at lw_m7 220 rfl) rfl
theorem q1771 : (Jvm.Cond.soleField "WingTramsModel" "waits") ∈ lw_all := lw_g (lw_at lw_m7 221 rfl) rfl
theorem q1772 : (Jvm.Cond.laysFinal "WingTramsModel" "WingTramsModel" "tested" "[Z") ∈ lw_all := lw_g (lw_at lw_m7 222 rfl) rfl
theorem q1773 : (Jvm.Cond.soleField "WingTramsModel" "tested") ∈ lw_all := lw_g (lw_at lw_m7 223 rfl) rfl
theorem q1774 : (Jvm.Cond.laysFinal "WingTramsModel" "WingTramsModel" "now" "[I") ∈ lw_all := lw_g (lw_at lw_m7 224 rfl) rfl
theorem q1775 : (Jvm.Cond.soleField "WingTramsModel" "now") ∈ lw_all := lw_g (lw_at lw_m7 225 rfl) rfl
theorem q1776 : (Jvm.Cond.laysFinal "WingTramsModel" "WingTramsModel" "then" "[I") ∈ lw_all := lw_g (lw_at lw_m7 226 rfl) rfl
theorem q1777 : (Jvm.Cond.soleField "WingTramsModel" "then") ∈ lw_all := lw_g (lw_at lw_m7 227 rfl) rfl
theorem q1778 : (Jvm.Cond.laysFinal "WingTramsModel" "WingTramsModel" "act" "[I") ∈ lw_all := lw_g (lw_at lw_m7 228 rfl) rfl
theorem q1779 : (Jvm.Cond.soleField "WingTramsModel" "act") ∈ lw_all := lw_g (lw_at lw_m7 229 rfl) rfl
theorem q1780 : (Jvm.Cond.lays "WingTramsModel" "WingTramsModel" "acts" "I") ∈ lw_all := lw_g (lw_at lw_m7 230 rfl) rfl
theorem q1781 : (Jvm.Cond.soleField "WingTramsModel" "acts") ∈ lw_all := lw_g (lw_at lw_m7 231 rfl) rfl
theorem q1782 : (Jvm.Cond.laysFinal "WingTramsModel" "WingTramsModel" "far" "[I") ∈ lw_all := lw_g (lw_at lw_m7 232 rfl) rfl
theorem q1783 : (Jvm.Cond.soleField "WingTramsModel" "far") ∈ lw_all := lw_g (lw_at lw_m7 233 rfl) rfl
theorem q1784 : (Jvm.Cond.laysFinal "WingTramsModel" "WingTramsModel" "told" "[I") ∈ lw_all := lw_g (lw_at lw_m7 234 rfl) rfl
theorem q1785 : (Jvm.Cond.soleField "WingTramsModel" "told") ∈ lw_all := lw_g (lw_at lw_m7 235 rfl) rfl
theorem q1786 : (Jvm.Cond.laysFinal "WingTramsModel" "WingTramsModel" "pile" "[I") ∈ lw_all := lw_g (lw_at lw_m7 236 rfl) rfl
theorem q1787 : (Jvm.Cond.soleField "WingTramsModel" "pile") ∈ lw_all := lw_g (lw_at lw_m7 237 rfl) rfl
theorem q1788 : (Jvm.Cond.laysFinal "WingTramsModel" "WingTramsModel" "comes" "[I") ∈ lw_all := lw_g (lw_at lw_m7 238 rfl) rfl
theorem q1789 : (Jvm.Cond.soleField "WingTramsModel" "comes") ∈ lw_all := lw_g (lw_at lw_m7 239 rfl) rfl
theorem q1790 : (Jvm.Cond.laysFinal "WingTramsModel" "WingTramsModel" "leaves" "[I") ∈ lw_all := lw_g (lw_at lw_m8 0 rfl) rfl
theorem q1791 : (Jvm.Cond.soleField "WingTramsModel" "leaves") ∈ lw_all := lw_g (lw_at lw_m8 1 rfl) rfl
theorem q1792 : (Jvm.Cond.laysFinal "WingTramsModel" "WingTramsModel" "mice" "[I") ∈ lw_all := lw_g (lw_at lw_m8 2 rfl) rfl
theorem q1793 : (Jvm.Cond.soleField "WingTramsModel" "mice") ∈ lw_all := lw_g (lw_at lw_m8 3 rfl) rfl
theorem q1794 : (Jvm.Cond.laysFinal "WingTramsModel" "WingTramsModel" "caught" "[I") ∈ lw_all := lw_g (lw_at lw_m8 4 rfl) rfl
theorem q1795 : (Jvm.Cond.soleField "WingTramsModel" "caught") ∈ lw_all := lw_g (lw_at lw_m8 5 rfl) rfl
theorem q1796 : (Jvm.Cond.laysFinal "WingTramsModel" "WingTramsModel" "at" "[I") ∈ lw_all := lw_g (lw_at lw_m8 6 rfl) rfl
theorem q1797 : (Jvm.Cond.soleField "WingTramsModel" "at") ∈ lw_all := lw_g (lw_at lw_m8 7 rfl) rfl
theorem q1798 : (Jvm.Cond.laysFinal "WingTramsModel" "WingTramsModel" "in" "[I") ∈ lw_all := lw_g (lw_at lw_m8 8 rfl) rfl
theorem q1799 : (Jvm.Cond.soleField "WingTramsModel" "in") ∈ lw_all := lw_g (lw_at lw_m8 9 rfl) rfl
theorem q1800 : (Jvm.Cond.laysFinal "WingTramsModel" "WingTramsModel" "soon" "[I") ∈ lw_all := lw_g (lw_at lw_m8 10 rfl) rfl
theorem q1801 : (Jvm.Cond.soleField "WingTramsModel" "soon") ∈ lw_all := lw_g (lw_at lw_m8 11 rfl) rfl
theorem q1802 : (Jvm.Cond.laysFinal "WingTramsModel" "WingTramsModel" "soonThen" "[I") ∈ lw_all := lw_g (lw_at lw_m8 12 rfl) rfl
theorem q1803 : (Jvm.Cond.soleField "WingTramsModel" "soonThen") ∈ lw_all := lw_g (lw_at lw_m8 13 rfl) rfl
theorem q1804 : (Jvm.Cond.laysFinal "WingTramsModel" "WingTramsModel" "soonBy" "[I") ∈ lw_all := lw_g (lw_at lw_m8 14 rfl) rfl
theorem q1805 : (Jvm.Cond.soleField "WingTramsModel" "soonBy") ∈ lw_all := lw_g (lw_at lw_m8 15 rfl) rfl
theorem q1806 : (Jvm.Cond.laysFinal "WingTramsModel" "WingTramsModel" "row" "[I") ∈ lw_all := lw_g (lw_at lw_m8 16 rfl) rfl
theorem q1807 : (Jvm.Cond.soleField "WingTramsModel" "row") ∈ lw_all := lw_g (lw_at lw_m8 17 rfl) rfl
theorem q1808 : (Jvm.Cond.laysFinal "WingTramsModel" "WingTramsModel" "tried" "[I") ∈ lw_all := lw_g (lw_at lw_m8 18 rfl) rfl
theorem q1809 : (Jvm.Cond.soleField "WingTramsModel" "tried") ∈ lw_all := lw_g (lw_at lw_m8 19 rfl) rfl
theorem q1810 : (Jvm.Cond.lays "WingTramsModel" "WingTramsModel" "hasRow" "Z") ∈ lw_all := lw_g (lw_at lw_m8 20 rfl) rfl
theorem q1811 : (Jvm.Cond.soleField "WingTramsModel" "hasRow") ∈ lw_all := lw_g (lw_at lw_m8 21 rfl) rfl
theorem q1812 : (Jvm.Cond.laysFinal "WingTramsModel" "WingTramsModel" "hung" "[I") ∈ lw_all := lw_g (lw_at lw_m8 22 rfl) rfl
theorem q1813 : (Jvm.Cond.soleField "WingTramsModel" "hung") ∈ lw_all := lw_g (lw_at lw_m8 23 rfl) rfl
theorem q1814 : (Jvm.Cond.lays "WingTramsModel" "WingTramsModel" "seenMany" "I") ∈ lw_all := lw_g (lw_at lw_m8 24 rfl) rfl
theorem q1815 : (Jvm.Cond.soleField "WingTramsModel" "seenMany") ∈ lw_all := lw_g (lw_at lw_m8 25 rfl) rfl
theorem q1816 : (Jvm.Cond.laysFinal "WingTramsModel" "WingTramsModel" "seen" "[I") ∈ lw_all := lw_g (lw_at lw_m8 26 rfl) rfl
theorem q1817 : (Jvm.Cond.soleField "WingTramsModel" "seen") ∈ lw_all := lw_g (lw_at lw_m8 27 rfl) rfl
theorem q1818 : (Jvm.Cond.laysFinal "WingTramsModel" "WingTramsModel" "often" "[I") ∈ lw_all := lw_g (lw_at lw_m8 28 rfl) rfl
theorem q1819 : (Jvm.Cond.soleField "WingTramsModel" "often") ∈ lw_all := lw_g (lw_at lw_m8 29 rfl) rfl
theorem q1820 : (Jvm.Cond.lays "WingTramsModel" "WingTramsModel" "hasImage" "Z") ∈ lw_all := lw_g (lw_at lw_m8 30 rfl) rfl
theorem q1821 : (Jvm.Cond.soleField "WingTramsModel" "hasImage") ∈ lw_all := lw_g (lw_at lw_m8 31 rfl) rfl
theorem q1822 : (Jvm.Cond.lays "WingTramsModel" "WingTramsModel" "imageActs" "I") ∈ lw_all := lw_g (lw_at lw_m8 32 rfl) rfl
theorem q1823 : (Jvm.Cond.soleField "WingTramsModel" "imageActs") ∈ lw_all := lw_g (lw_at lw_m8 33 rfl) rfl
theorem q1824 : (Jvm.Cond.lays "WingTramsModel" "WingTramsModel" "imageSeen" "I") ∈ lw_all := lw_g (lw_at lw_m8 34 rfl) rfl
theorem q1825 : (Jvm.Cond.soleField "WingTramsModel" "imageSeen") ∈ lw_all := lw_g (lw_at lw_m8 35 rfl) rfl
theorem q1826 : (Jvm.Cond.laysFinal "WingTramsModel" "WingTramsModel" "imageNow" "[I") ∈ lw_all := lw_g (lw_at lw_m8 36 rfl) rfl
theorem q1827 : (Jvm.Cond.soleField "WingTramsModel" "imageNow") ∈ lw_all := lw_g (lw_at lw_m8 37 rfl) rfl
theorem q1828 : (Jvm.Cond.laysFinal "WingTramsModel" "WingTramsModel" "imageAct" "[I") ∈ lw_all := lw_g (lw_at lw_m8 38 rfl) rfl
theorem q1829 : (Jvm.Cond.soleField "WingTramsModel" "imageAct") ∈ lw_all := lw_g (lw_at lw_m8 39 rfl) rfl
theorem q1830 : (Jvm.Cond.laysFinal "WingTramsModel" "WingTramsModel" "imageSees" "[I") ∈ lw_all := lw_g (lw_at lw_m8 40 rfl) rfl
theorem q1831 : (Jvm.Cond.soleField "WingTramsModel" "imageSees") ∈ lw_all := lw_g (lw_at lw_m8 41 rfl) rfl
theorem q1832 : (Jvm.Cond.superclass "WingTramsModel" "java/lang/Object") ∈ lw_all := lw_g (lw_at lw_m8 42 rfl) rfl
theorem q1835 : (Jvm.Cond.instanceMethod ({ cls := "WingTramsModel", name := "thrown", desc := "()I" } : Jvm.MethodName)) ∈ lw_all := lw_g (lw_at lw_m8 45 rfl) rfl
theorem q1836 : (Jvm.Cond.selects "WingTramsModel" ({ cls := "WingTramsModel", name := "thrown", desc := "()I" } : Jvm.MethodName) ({ cls := "WingTramsModel", name := "thrown", desc := "()I" } : Jvm.MethodName)) ∈ lw_all := lw_g (lw_at lw_m8 46 rfl) rfl
theorem q1837 : (Jvm.Cond.code ({ cls := "WingTramsModel", name := "thrown", desc := "()I" } : Jvm.MethodName) prog_14_method_2_code (1 : Nat) (Option.some Jvm.ClassFile.FieldType.int)) ∈ lw_all := lw_g (lw_at lw_m8 47 rfl) rfl
theorem q1839 : (Jvm.Cond.instanceMethod ({ cls := "WingTramsModel", name := "feed", desc := "(IIIII)I" } : Jvm.MethodName)) ∈ lw_all := lw_g (lw_at lw_m8 49 rfl) rfl
theorem q1840 : (Jvm.Cond.selects "WingTramsModel" ({ cls := "WingTramsModel", name := "feed", desc := "(IIIII)I" } : Jvm.MethodName) ({ cls := "WingTramsModel", name := "feed", desc := "(IIIII)I" } : Jvm.MethodName)) ∈ lw_all := lw_g (lw_at lw_m8 50 rfl) rfl
theorem q1841 : (Jvm.Cond.code ({ cls := "WingTramsModel", name := "feed", desc := "(IIIII)I" } : Jvm.MethodName) prog_14_method_8_code (6 : Nat) (Option.some Jvm.ClassFile.FieldType.int)) ∈ lw_all := lw_g (lw_at lw_m8 51 rfl) rfl
theorem q1842 : (Jvm.Cond.methodLink "WingTramsModel" (153 : Nat) ({ cls := "WingTramsModel", name := "lays", desc := "(I)V" } : Jvm.MethodName)) ∈ lw_all := lw_g (lw_at lw_m8 52 rfl) rfl
theorem q1843 : (Jvm.Cond.privateMethod ({ cls := "WingTramsModel", name := "lays", desc := "(I)V" } : Jvm.MethodName)) ∈ lw_tbl := lw_at lw_m8 53 rfl
theorem q1844 : (Jvm.Cond.instanceMethod ({ cls := "WingTramsModel", name := "lays", desc := "(I)V" } : Jvm.MethodName)) ∈ lw_all := lw_g (lw_at lw_m8 54 rfl) rfl
theorem q1845 : (Jvm.Cond.code ({ cls := "WingTramsModel", name := "lays", desc := "(I)V" } : Jvm.MethodName) prog_14_method_9_code (3 : Nat) (Option.none : Option Jvm.ClassFile.FieldType)) ∈ lw_all := lw_g (lw_at lw_m8 55 rfl) rfl
theorem q1847 : (Jvm.Cond.instanceMethod ({ cls := "WingTramsModel", name := "city", desc := "(I)I" } : Jvm.MethodName)) ∈ lw_all := lw_g (lw_at lw_m8 57 rfl) rfl
theorem q1848 : (Jvm.Cond.selects "WingTramsModel" ({ cls := "WingTramsModel", name := "city", desc := "(I)I" } : Jvm.MethodName) ({ cls := "WingTramsModel", name := "city", desc := "(I)I" } : Jvm.MethodName)) ∈ lw_all := lw_g (lw_at lw_m8 58 rfl) rfl
theorem q1849 : (Jvm.Cond.code ({ cls := "WingTramsModel", name := "city", desc := "(I)I" } : Jvm.MethodName) prog_14_method_39_code (3 : Nat) (Option.some Jvm.ClassFile.FieldType.int)) ∈ lw_all := lw_g (lw_at lw_m8 59 rfl) rfl
theorem q1850 : (Jvm.Cond.methodLink "WingTramsModel" (306 : Nat) ({ cls := "WingTramsModel", name := "right", desc := "(ZI)Z" } : Jvm.MethodName)) ∈ lw_all := lw_g (lw_at lw_m8 60 rfl) rfl
theorem q1851 : (Jvm.Cond.privateMethod ({ cls := "WingTramsModel", name := "right", desc := "(ZI)Z" } : Jvm.MethodName)) ∈ lw_tbl := lw_at lw_m8 61 rfl
theorem q1852 : (Jvm.Cond.instanceMethod ({ cls := "WingTramsModel", name := "right", desc := "(ZI)Z" } : Jvm.MethodName)) ∈ lw_all := lw_g (lw_at lw_m8 62 rfl) rfl
theorem q1853 : (Jvm.Cond.code ({ cls := "WingTramsModel", name := "right", desc := "(ZI)Z" } : Jvm.MethodName) prog_14_method_3_code (3 : Nat) (Option.some Jvm.ClassFile.FieldType.boolean)) ∈ lw_all := lw_g (lw_at lw_m8 63 rfl) rfl
theorem q1854 : (Jvm.Cond.methodLink "WingTramsModel" (210 : Nat) ({ cls := "WingTramsModel", name := "goes", desc := "()V" } : Jvm.MethodName)) ∈ lw_all := lw_g (lw_at lw_m8 64 rfl) rfl
theorem q1855 : (Jvm.Cond.privateMethod ({ cls := "WingTramsModel", name := "goes", desc := "()V" } : Jvm.MethodName)) ∈ lw_tbl := lw_at lw_m8 65 rfl
theorem q1856 : (Jvm.Cond.instanceMethod ({ cls := "WingTramsModel", name := "goes", desc := "()V" } : Jvm.MethodName)) ∈ lw_all := lw_g (lw_at lw_m8 66 rfl) rfl
theorem q1857 : (Jvm.Cond.code ({ cls := "WingTramsModel", name := "goes", desc := "()V" } : Jvm.MethodName) prog_14_method_13_code (2 : Nat) (Option.none : Option Jvm.ClassFile.FieldType)) ∈ lw_all := lw_g (lw_at lw_m8 67 rfl) rfl
theorem q1858 : (Jvm.Cond.methodLink "WingTramsModel" (163 : Nat) ({ cls := "WingTramsModel", name := "byteAt", desc := "(I)I" } : Jvm.MethodName)) ∈ lw_all := lw_g (lw_at lw_m8 68 rfl) rfl
theorem q1859 : (Jvm.Cond.privateMethod ({ cls := "WingTramsModel", name := "byteAt", desc := "(I)I" } : Jvm.MethodName)) ∈ lw_tbl := lw_at lw_m8 69 rfl
theorem q1860 : (Jvm.Cond.instanceMethod ({ cls := "WingTramsModel", name := "byteAt", desc := "(I)I" } : Jvm.MethodName)) ∈ lw_all := lw_g (lw_at lw_m8 70 rfl) rfl
theorem q1861 : (Jvm.Cond.code ({ cls := "WingTramsModel", name := "byteAt", desc := "(I)I" } : Jvm.MethodName) prog_14_method_10_code (2 : Nat) (Option.some Jvm.ClassFile.FieldType.int)) ∈ lw_all := lw_g (lw_at lw_m8 71 rfl) rfl
theorem q1862 : (Jvm.Cond.methodLink "WingTramsModel" (183 : Nat) ({ cls := "WingTramsModel", name := "isLetter", desc := "(I)Z" } : Jvm.MethodName)) ∈ lw_all := lw_g (lw_at lw_m8 72 rfl) rfl
theorem q1863 : (Jvm.Cond.static ({ cls := "WingTramsModel", name := "isLetter", desc := "(I)Z" } : Jvm.MethodName)) ∈ lw_all := lw_g (lw_at lw_m8 73 rfl) rfl
theorem q1864 : (Jvm.Cond.code ({ cls := "WingTramsModel", name := "isLetter", desc := "(I)Z" } : Jvm.MethodName) prog_14_method_11_code (1 : Nat) (Option.some Jvm.ClassFile.FieldType.boolean)) ∈ lw_all := lw_g (lw_at lw_m8 74 rfl) rfl
theorem q1865 : (Jvm.Cond.methodLink "WingTramsModel" (187 : Nat) ({ cls := "WingTramsModel", name := "isDigit", desc := "(I)Z" } : Jvm.MethodName)) ∈ lw_all := lw_g (lw_at lw_m8 75 rfl) rfl
theorem q1866 : (Jvm.Cond.static ({ cls := "WingTramsModel", name := "isDigit", desc := "(I)Z" } : Jvm.MethodName)) ∈ lw_all := lw_g (lw_at lw_m8 76 rfl) rfl
theorem q1867 : (Jvm.Cond.code ({ cls := "WingTramsModel", name := "isDigit", desc := "(I)Z" } : Jvm.MethodName) prog_14_method_12_code (1 : Nat) (Option.some Jvm.ClassFile.FieldType.boolean)) ∈ lw_all := lw_g (lw_at lw_m8 77 rfl) rfl
theorem q1868 : (Jvm.Cond.methodLink "WingTramsModel" (206 : Nat) ({ cls := "WingTramsModel", name := "isGood", desc := "()Z" } : Jvm.MethodName)) ∈ lw_all := lw_g (lw_at lw_m8 78 rfl) rfl
theorem q1869 : (Jvm.Cond.privateMethod ({ cls := "WingTramsModel", name := "isGood", desc := "()Z" } : Jvm.MethodName)) ∈ lw_tbl := lw_at lw_m8 79 rfl
theorem q1870 : (Jvm.Cond.instanceMethod ({ cls := "WingTramsModel", name := "isGood", desc := "()Z" } : Jvm.MethodName)) ∈ lw_all := lw_g (lw_at lw_m8 80 rfl) rfl
theorem q1871 : (Jvm.Cond.code ({ cls := "WingTramsModel", name := "isGood", desc := "()Z" } : Jvm.MethodName) prog_14_method_18_code (1 : Nat) (Option.some Jvm.ClassFile.FieldType.boolean)) ∈ lw_all := lw_g (lw_at lw_m8 81 rfl) rfl
theorem q1872 : (Jvm.Cond.methodLink "WingTramsModel" (310 : Nat) ({ cls := "WingTramsModel", name := "line", desc := "()V" } : Jvm.MethodName)) ∈ lw_all := lw_g (lw_at lw_m8 82 rfl) rfl
theorem q1873 : (Jvm.Cond.privateMethod ({ cls := "WingTramsModel", name := "line", desc := "()V" } : Jvm.MethodName)) ∈ lw_tbl := lw_at lw_m8 83 rfl
theorem q1874 : (Jvm.Cond.instanceMethod ({ cls := "WingTramsModel", name := "line", desc := "()V" } : Jvm.MethodName)) ∈ lw_all := lw_g (lw_at lw_m8 84 rfl) rfl
theorem q1875 : (Jvm.Cond.code ({ cls := "WingTramsModel", name := "line", desc := "()V" } : Jvm.MethodName) prog_14_method_38_code (2 : Nat) (Option.none : Option Jvm.ClassFile.FieldType)) ∈ lw_all := lw_g (lw_at lw_m8 85 rfl) rfl
theorem q1876 : (Jvm.Cond.methodLink "WingTramsModel" (238 : Nat) ({ cls := "WingTramsModel", name := "knownWord", desc := "()I" } : Jvm.MethodName)) ∈ lw_all := lw_g (lw_at lw_m8 86 rfl) rfl
theorem q1877 : (Jvm.Cond.privateMethod ({ cls := "WingTramsModel", name := "knownWord", desc := "()I" } : Jvm.MethodName)) ∈ lw_tbl := lw_at lw_m8 87 rfl
theorem q1878 : (Jvm.Cond.instanceMethod ({ cls := "WingTramsModel", name := "knownWord", desc := "()I" } : Jvm.MethodName)) ∈ lw_all := lw_g (lw_at lw_m8 88 rfl) rfl
theorem q1879 : (Jvm.Cond.code ({ cls := "WingTramsModel", name := "knownWord", desc := "()I" } : Jvm.MethodName) prog_14_method_16_code (2 : Nat) (Option.some Jvm.ClassFile.FieldType.int)) ∈ lw_all := lw_g (lw_at lw_m8 89 rfl) rfl
theorem q1880 : (Jvm.Cond.methodLink "WingTramsModel" (199 : Nat) ({ cls := "WingTramsModel", name := "letters", desc := "(I)J" } : Jvm.MethodName)) ∈ lw_all := lw_g (lw_at lw_m8 90 rfl) rfl
theorem q1881 : (Jvm.Cond.static ({ cls := "WingTramsModel", name := "letters", desc := "(I)J" } : Jvm.MethodName)) ∈ lw_all := lw_g (lw_at lw_m8 91 rfl) rfl
theorem q1882 : (Jvm.Cond.code ({ cls := "WingTramsModel", name := "letters", desc := "(I)J" } : Jvm.MethodName) prog_14_method_15_code (1 : Nat) (Option.some Jvm.ClassFile.FieldType.long)) ∈ lw_all := lw_g (lw_at lw_m8 92 rfl) rfl
theorem q1883 : (Jvm.Cond.methodLink "WingTramsModel" (195 : Nat) ({ cls := "WingTramsModel", name := "spelled", desc := "(IIIIII)J" } : Jvm.MethodName)) ∈ lw_all := lw_g (lw_at lw_m8 93 rfl) rfl
theorem q1884 : (Jvm.Cond.static ({ cls := "WingTramsModel", name := "spelled", desc := "(IIIIII)J" } : Jvm.MethodName)) ∈ lw_all := lw_g (lw_at lw_m8 94 rfl) rfl
theorem q1885 : (Jvm.Cond.code ({ cls := "WingTramsModel", name := "spelled", desc := "(IIIIII)J" } : Jvm.MethodName) prog_14_method_14_code (8 : Nat) (Option.some Jvm.ClassFile.FieldType.long)) ∈ lw_all := lw_g (lw_at lw_m8 95 rfl) rfl
theorem q1886 : (Jvm.Cond.constantLong "WingTramsModel" (193 : Nat) (96 : Int64)) ∈ lw_all := lw_g (lw_at lw_m8 96 rfl) rfl
theorem q1887 : (Jvm.Cond.methodLink "WingTramsModel" (213 : Nat) ({ cls := "WingTramsModel", name := "wrong", desc := "(I)V" } : Jvm.MethodName)) ∈ lw_all := lw_g (lw_at lw_m8 97 rfl) rfl
theorem q1888 : (Jvm.Cond.privateMethod ({ cls := "WingTramsModel", name := "wrong", desc := "(I)V" } : Jvm.MethodName)) ∈ lw_tbl := lw_at lw_m8 98 rfl
theorem q1889 : (Jvm.Cond.instanceMethod ({ cls := "WingTramsModel", name := "wrong", desc := "(I)V" } : Jvm.MethodName)) ∈ lw_all := lw_g (lw_at lw_m8 99 rfl) rfl
theorem q1890 : (Jvm.Cond.code ({ cls := "WingTramsModel", name := "wrong", desc := "(I)V" } : Jvm.MethodName) prog_14_method_17_code (2 : Nat) (Option.none : Option Jvm.ClassFile.FieldType)) ∈ lw_all := lw_g (lw_at lw_m8 100 rfl) rfl
theorem q1891 : (Jvm.Cond.methodLink "WingTramsModel" (275 : Nat) ({ cls := "WingTramsModel", name := "number", desc := "(II)I" } : Jvm.MethodName)) ∈ lw_all := lw_g (lw_at lw_m8 101 rfl) rfl
theorem q1892 : (Jvm.Cond.privateMethod ({ cls := "WingTramsModel", name := "number", desc := "(II)I" } : Jvm.MethodName)) ∈ lw_tbl := lw_at lw_m8 102 rfl
theorem q1893 : (Jvm.Cond.instanceMethod ({ cls := "WingTramsModel", name := "number", desc := "(II)I" } : Jvm.MethodName)) ∈ lw_all := lw_g (lw_at lw_m8 103 rfl) rfl
theorem q1894 : (Jvm.Cond.code ({ cls := "WingTramsModel", name := "number", desc := "(II)I" } : Jvm.MethodName) prog_14_method_21_code (4 : Nat) (Option.some Jvm.ClassFile.FieldType.int)) ∈ lw_all := lw_g (lw_at lw_m8 104 rfl) rfl
theorem q1895 : (Jvm.Cond.methodLink "WingTramsModel" (285 : Nat) ({ cls := "WingTramsModel", name := "readsFlight", desc := "()V" } : Jvm.MethodName)) ∈ lw_all := lw_g (lw_at lw_m8 105 rfl) rfl
theorem q1896 : (Jvm.Cond.privateMethod ({ cls := "WingTramsModel", name := "readsFlight", desc := "()V" } : Jvm.MethodName)) ∈ lw_tbl := lw_at lw_m8 106 rfl
theorem q1897 : (Jvm.Cond.instanceMethod ({ cls := "WingTramsModel", name := "readsFlight", desc := "()V" } : Jvm.MethodName)) ∈ lw_all := lw_g (lw_at lw_m8 107 rfl) rfl
theorem q1898 : (Jvm.Cond.code ({ cls := "WingTramsModel", name := "readsFlight", desc := "()V" } : Jvm.MethodName) prog_14_method_35_code (4 : Nat) (Option.none : Option Jvm.ClassFile.FieldType)) ∈ lw_all := lw_g (lw_at lw_m8 108 rfl) rfl
theorem q1899 : (Jvm.Cond.methodLink "WingTramsModel" (272 : Nat) ({ cls := "WingTramsModel", name := "roofNext", desc := "()I" } : Jvm.MethodName)) ∈ lw_all := lw_g (lw_at lw_m8 109 rfl) rfl
theorem q1900 : (Jvm.Cond.privateMethod ({ cls := "WingTramsModel", name := "roofNext", desc := "()I" } : Jvm.MethodName)) ∈ lw_tbl := lw_at lw_m8 110 rfl
theorem q1901 : (Jvm.Cond.instanceMethod ({ cls := "WingTramsModel", name := "roofNext", desc := "()I" } : Jvm.MethodName)) ∈ lw_all := lw_g (lw_at lw_m8 111 rfl) rfl
theorem q1902 : (Jvm.Cond.code ({ cls := "WingTramsModel", name := "roofNext", desc := "()I" } : Jvm.MethodName) prog_14_method_23_code (2 : Nat) (Option.some Jvm.ClassFile.FieldType.int)) ∈ lw_all := lw_g (lw_at lw_m8 112 rfl) rfl
theorem q1903 : (Jvm.Cond.methodLink "WingTramsModel" (219 : Nat) ({ cls := "WingTramsModel", name := "roofHere", desc := "()I" } : Jvm.MethodName)) ∈ lw_all := lw_g (lw_at lw_m8 113 rfl) rfl
theorem q1904 : (Jvm.Cond.privateMethod ({ cls := "WingTramsModel", name := "roofHere", desc := "()I" } : Jvm.MethodName)) ∈ lw_tbl := lw_at lw_m8 114 rfl
theorem q1905 : (Jvm.Cond.instanceMethod ({ cls := "WingTramsModel", name := "roofHere", desc := "()I" } : Jvm.MethodName)) ∈ lw_all := lw_g (lw_at lw_m8 115 rfl) rfl
theorem q1906 : (Jvm.Cond.code ({ cls := "WingTramsModel", name := "roofHere", desc := "()I" } : Jvm.MethodName) prog_14_method_22_code (1 : Nat) (Option.some Jvm.ClassFile.FieldType.int)) ∈ lw_all := lw_g (lw_at lw_m8 116 rfl) rfl
theorem q1907 : (Jvm.Cond.methodLink "WingTramsModel" (288 : Nat) ({ cls := "WingTramsModel", name := "readsOwl", desc := "(I)V" } : Jvm.MethodName)) ∈ lw_all := lw_g (lw_at lw_m8 117 rfl) rfl
theorem q1908 : (Jvm.Cond.privateMethod ({ cls := "WingTramsModel", name := "readsOwl", desc := "(I)V" } : Jvm.MethodName)) ∈ lw_tbl := lw_at lw_m8 118 rfl
theorem q1909 : (Jvm.Cond.instanceMethod ({ cls := "WingTramsModel", name := "readsOwl", desc := "(I)V" } : Jvm.MethodName)) ∈ lw_all := lw_g (lw_at lw_m8 119 rfl) rfl
theorem q1910 : (Jvm.Cond.code ({ cls := "WingTramsModel", name := "readsOwl", desc := "(I)V" } : Jvm.MethodName) prog_14_method_36_code (5 : Nat) (Option.none : Option Jvm.ClassFile.FieldType)) ∈ lw_all := lw_g (lw_at lw_m8 120 rfl) rfl
theorem q1911 : (Jvm.Cond.methodLink "WingTramsModel" (291 : Nat) ({ cls := "WingTramsModel", name := "readsRider", desc := "()V" } : Jvm.MethodName)) ∈ lw_all := lw_g (lw_at lw_m8 121 rfl) rfl
theorem q1912 : (Jvm.Cond.privateMethod ({ cls := "WingTramsModel", name := "readsRider", desc := "()V" } : Jvm.MethodName)) ∈ lw_tbl := lw_at lw_m8 122 rfl
theorem q1913 : (Jvm.Cond.instanceMethod ({ cls := "WingTramsModel", name := "readsRider", desc := "()V" } : Jvm.MethodName)) ∈ lw_all := lw_g (lw_at lw_m8 123 rfl) rfl
theorem q1914 : (Jvm.Cond.code ({ cls := "WingTramsModel", name := "readsRider", desc := "()V" } : Jvm.MethodName) prog_14_method_37_code (2 : Nat) (Option.none : Option Jvm.ClassFile.FieldType)) ∈ lw_all := lw_g (lw_at lw_m8 124 rfl) rfl
theorem q1915 : (Jvm.Cond.methodLink "WingTramsModel" (300 : Nat) ({ cls := "WingTramsModel", name := "expression", desc := "()V" } : Jvm.MethodName)) ∈ lw_all := lw_g (lw_at lw_m8 125 rfl) rfl
theorem q1916 : (Jvm.Cond.privateMethod ({ cls := "WingTramsModel", name := "expression", desc := "()V" } : Jvm.MethodName)) ∈ lw_tbl := lw_at lw_m8 126 rfl
theorem q1917 : (Jvm.Cond.instanceMethod ({ cls := "WingTramsModel", name := "expression", desc := "()V" } : Jvm.MethodName)) ∈ lw_all := lw_g (lw_at lw_m8 127 rfl) rfl
theorem q1918 : (Jvm.Cond.code ({ cls := "WingTramsModel", name := "expression", desc := "()V" } : Jvm.MethodName) prog_14_method_34_code (3 : Nat) (Option.none : Option Jvm.ClassFile.FieldType)) ∈ lw_all := lw_g (lw_at lw_m8 128 rfl) rfl
theorem q1919 : (Jvm.Cond.methodLink "WingTramsModel" (250 : Nat) ({ cls := "WingTramsModel", name := "deeper", desc := "()V" } : Jvm.MethodName)) ∈ lw_all := lw_g (lw_at lw_m8 129 rfl) rfl
theorem q1920 : (Jvm.Cond.privateMethod ({ cls := "WingTramsModel", name := "deeper", desc := "()V" } : Jvm.MethodName)) ∈ lw_tbl := lw_at lw_m8 130 rfl
theorem q1921 : (Jvm.Cond.instanceMethod ({ cls := "WingTramsModel", name := "deeper", desc := "()V" } : Jvm.MethodName)) ∈ lw_all := lw_g (lw_at lw_m8 131 rfl) rfl
theorem q1922 : (Jvm.Cond.code ({ cls := "WingTramsModel", name := "deeper", desc := "()V" } : Jvm.MethodName) prog_14_method_30_code (1 : Nat) (Option.none : Option Jvm.ClassFile.FieldType)) ∈ lw_all := lw_g (lw_at lw_m8 132 rfl) rfl
theorem q1923 : (Jvm.Cond.methodLink "WingTramsModel" (244 : Nat) ({ cls := "WingTramsModel", name := "isSign", desc := "(I)Z" } : Jvm.MethodName)) ∈ lw_all := lw_g (lw_at lw_m8 133 rfl) rfl
theorem q1924 : (Jvm.Cond.privateMethod ({ cls := "WingTramsModel", name := "isSign", desc := "(I)Z" } : Jvm.MethodName)) ∈ lw_tbl := lw_at lw_m8 134 rfl
theorem q1925 : (Jvm.Cond.instanceMethod ({ cls := "WingTramsModel", name := "isSign", desc := "(I)Z" } : Jvm.MethodName)) ∈ lw_all := lw_g (lw_at lw_m8 135 rfl) rfl
theorem q1926 : (Jvm.Cond.code ({ cls := "WingTramsModel", name := "isSign", desc := "(I)Z" } : Jvm.MethodName) prog_14_method_19_code (2 : Nat) (Option.some Jvm.ClassFile.FieldType.boolean)) ∈ lw_all := lw_g (lw_at lw_m8 136 rfl) rfl
theorem q1927 : (Jvm.Cond.methodLink "WingTramsModel" (259 : Nat) ({ cls := "WingTramsModel", name := "operand", desc := "(Z)V" } : Jvm.MethodName)) ∈ lw_all := lw_g (lw_at lw_m8 137 rfl) rfl
theorem q1928 : (Jvm.Cond.privateMethod ({ cls := "WingTramsModel", name := "operand", desc := "(Z)V" } : Jvm.MethodName)) ∈ lw_tbl := lw_at lw_m8 138 rfl
theorem q1929 : (Jvm.Cond.instanceMethod ({ cls := "WingTramsModel", name := "operand", desc := "(Z)V" } : Jvm.MethodName)) ∈ lw_all := lw_g (lw_at lw_m8 139 rfl) rfl
theorem q1930 : (Jvm.Cond.code ({ cls := "WingTramsModel", name := "operand", desc := "(Z)V" } : Jvm.MethodName) prog_14_method_31_code (5 : Nat) (Option.none : Option Jvm.ClassFile.FieldType)) ∈ lw_all := lw_g (lw_at lw_m8 140 rfl) rfl
theorem q1931 : (Jvm.Cond.methodLink "WingTramsModel" (247 : Nat) ({ cls := "WingTramsModel", name := "waitsFor", desc := "(I)V" } : Jvm.MethodName)) ∈ lw_all := lw_g (lw_at lw_m8 141 rfl) rfl
theorem q1932 : (Jvm.Cond.privateMethod ({ cls := "WingTramsModel", name := "waitsFor", desc := "(I)V" } : Jvm.MethodName)) ∈ lw_tbl := lw_at lw_m8 142 rfl
theorem q1933 : (Jvm.Cond.instanceMethod ({ cls := "WingTramsModel", name := "waitsFor", desc := "(I)V" } : Jvm.MethodName)) ∈ lw_all := lw_g (lw_at lw_m8 143 rfl) rfl
theorem q1934 : (Jvm.Cond.code ({ cls := "WingTramsModel", name := "waitsFor", desc := "(I)V" } : Jvm.MethodName) prog_14_method_28_code (2 : Nat) (Option.none : Option Jvm.ClassFile.FieldType)) ∈ lw_all := lw_g (lw_at lw_m8 144 rfl) rfl
theorem q1935 : (Jvm.Cond.methodLink "WingTramsModel" (253 : Nat) ({ cls := "WingTramsModel", name := "part", desc := "()V" } : Jvm.MethodName)) ∈ lw_all := lw_g (lw_at lw_m8 145 rfl) rfl
theorem q1936 : (Jvm.Cond.privateMethod ({ cls := "WingTramsModel", name := "part", desc := "()V" } : Jvm.MethodName)) ∈ lw_tbl := lw_at lw_m8 146 rfl
theorem q1937 : (Jvm.Cond.instanceMethod ({ cls := "WingTramsModel", name := "part", desc := "()V" } : Jvm.MethodName)) ∈ lw_all := lw_g (lw_at lw_m8 147 rfl) rfl
theorem q1938 : (Jvm.Cond.code ({ cls := "WingTramsModel", name := "part", desc := "()V" } : Jvm.MethodName) prog_14_method_29_code (2 : Nat) (Option.none : Option Jvm.ClassFile.FieldType)) ∈ lw_all := lw_g (lw_at lw_m8 148 rfl) rfl
theorem q1939 : (Jvm.Cond.methodLink "WingTramsModel" (235 : Nat) ({ cls := "WingTramsModel", name := "puts", desc := "(I)V" } : Jvm.MethodName)) ∈ lw_all := lw_g (lw_at lw_m8 149 rfl) rfl
theorem q1940 : (Jvm.Cond.privateMethod ({ cls := "WingTramsModel", name := "puts", desc := "(I)V" } : Jvm.MethodName)) ∈ lw_tbl := lw_at lw_m8 150 rfl
theorem q1941 : (Jvm.Cond.instanceMethod ({ cls := "WingTramsModel", name := "puts", desc := "(I)V" } : Jvm.MethodName)) ∈ lw_all := lw_g (lw_at lw_m8 151 rfl) rfl
theorem q1942 : (Jvm.Cond.code ({ cls := "WingTramsModel", name := "puts", desc := "(I)V" } : Jvm.MethodName) prog_14_method_24_code (2 : Nat) (Option.none : Option Jvm.ClassFile.FieldType)) ∈ lw_all := lw_g (lw_at lw_m8 152 rfl) rfl
theorem q1943 : (Jvm.Cond.methodLink "WingTramsModel" (256 : Nat) ({ cls := "WingTramsModel", name := "drops", desc := "(I)V" } : Jvm.MethodName)) ∈ lw_all := lw_g (lw_at lw_m8 153 rfl) rfl
theorem q1944 : (Jvm.Cond.privateMethod ({ cls := "WingTramsModel", name := "drops", desc := "(I)V" } : Jvm.MethodName)) ∈ lw_tbl := lw_at lw_m8 154 rfl
theorem q1945 : (Jvm.Cond.instanceMethod ({ cls := "WingTramsModel", name := "drops", desc := "(I)V" } : Jvm.MethodName)) ∈ lw_all := lw_g (lw_at lw_m8 155 rfl) rfl
theorem q1946 : (Jvm.Cond.code ({ cls := "WingTramsModel", name := "drops", desc := "(I)V" } : Jvm.MethodName) prog_14_method_27_code (2 : Nat) (Option.none : Option Jvm.ClassFile.FieldType)) ∈ lw_all := lw_g (lw_at lw_m8 156 rfl) rfl
theorem q1947 : (Jvm.Cond.methodLink "WingTramsModel" (229 : Nat) ({ cls := "WingTramsModel", name := "isOpen", desc := "(I)Z" } : Jvm.MethodName)) ∈ lw_all := lw_g (lw_at lw_m8 157 rfl) rfl
theorem q1948 : (Jvm.Cond.static ({ cls := "WingTramsModel", name := "isOpen", desc := "(I)Z" } : Jvm.MethodName)) ∈ lw_all := lw_g (lw_at lw_m8 158 rfl) rfl
theorem q1949 : (Jvm.Cond.code ({ cls := "WingTramsModel", name := "isOpen", desc := "(I)Z" } : Jvm.MethodName) prog_14_method_25_code (1 : Nat) (Option.some Jvm.ClassFile.FieldType.boolean)) ∈ lw_all := lw_g (lw_at lw_m8 159 rfl) rfl
theorem q1950 : (Jvm.Cond.methodLink "WingTramsModel" (232 : Nat) ({ cls := "WingTramsModel", name := "strength", desc := "(I)I" } : Jvm.MethodName)) ∈ lw_all := lw_g (lw_at lw_m8 160 rfl) rfl
theorem q1951 : (Jvm.Cond.static ({ cls := "WingTramsModel", name := "strength", desc := "(I)I" } : Jvm.MethodName)) ∈ lw_all := lw_g (lw_at lw_m8 161 rfl) rfl
theorem q1952 : (Jvm.Cond.code ({ cls := "WingTramsModel", name := "strength", desc := "(I)I" } : Jvm.MethodName) prog_14_method_26_code (1 : Nat) (Option.some Jvm.ClassFile.FieldType.int)) ∈ lw_all := lw_g (lw_at lw_m8 162 rfl) rfl
theorem q1953 : (Jvm.Cond.methodLink "WingTramsModel" (263 : Nat) ({ cls := "WingTramsModel", name := "isOpened", desc := "()Z" } : Jvm.MethodName)) ∈ lw_all := lw_g (lw_at lw_m8 163 rfl) rfl
theorem q1954 : (Jvm.Cond.privateMethod ({ cls := "WingTramsModel", name := "isOpened", desc := "()Z" } : Jvm.MethodName)) ∈ lw_tbl := lw_at lw_m8 164 rfl
theorem q1955 : (Jvm.Cond.instanceMethod ({ cls := "WingTramsModel", name := "isOpened", desc := "()Z" } : Jvm.MethodName)) ∈ lw_all := lw_g (lw_at lw_m8 165 rfl) rfl
theorem q1956 : (Jvm.Cond.code ({ cls := "WingTramsModel", name := "isOpened", desc := "()Z" } : Jvm.MethodName) prog_14_method_32_code (2 : Nat) (Option.some Jvm.ClassFile.FieldType.boolean)) ∈ lw_all := lw_g (lw_at lw_m8 166 rfl) rfl
theorem q1957 : (Jvm.Cond.methodLink "WingTramsModel" (266 : Nat) ({ cls := "WingTramsModel", name := "closes", desc := "()V" } : Jvm.MethodName)) ∈ lw_all := lw_g (lw_at lw_m8 167 rfl) rfl
theorem q1958 : (Jvm.Cond.privateMethod ({ cls := "WingTramsModel", name := "closes", desc := "()V" } : Jvm.MethodName)) ∈ lw_tbl := lw_at lw_m8 168 rfl
theorem q1959 : (Jvm.Cond.instanceMethod ({ cls := "WingTramsModel", name := "closes", desc := "()V" } : Jvm.MethodName)) ∈ lw_all := lw_g (lw_at lw_m8 169 rfl) rfl
theorem q1960 : (Jvm.Cond.code ({ cls := "WingTramsModel", name := "closes", desc := "()V" } : Jvm.MethodName) prog_14_method_33_code (1 : Nat) (Option.none : Option Jvm.ClassFile.FieldType)) ∈ lw_all := lw_g (lw_at lw_m8 170 rfl) rfl
theorem q1961 : (Jvm.Cond.methodLink "WingTramsModel" (303 : Nat) ({ cls := "WingTramsModel", name := "need", desc := "(Z)V" } : Jvm.MethodName)) ∈ lw_all := lw_g (lw_at lw_m8 171 rfl) rfl
theorem q1962 : (Jvm.Cond.privateMethod ({ cls := "WingTramsModel", name := "need", desc := "(Z)V" } : Jvm.MethodName)) ∈ lw_tbl := lw_at lw_m8 172 rfl
theorem q1963 : (Jvm.Cond.instanceMethod ({ cls := "WingTramsModel", name := "need", desc := "(Z)V" } : Jvm.MethodName)) ∈ lw_all := lw_g (lw_at lw_m8 173 rfl) rfl
theorem q1964 : (Jvm.Cond.code ({ cls := "WingTramsModel", name := "need", desc := "(Z)V" } : Jvm.MethodName) prog_14_method_20_code (2 : Nat) (Option.none : Option Jvm.ClassFile.FieldType)) ∈ lw_all := lw_g (lw_at lw_m8 174 rfl) rfl
theorem q1965 : (Jvm.Cond.methodLink "WingTramsModel" (328 : Nat) ({ cls := "WingTramsModel", name := "copies", desc := "([I[I)V" } : Jvm.MethodName)) ∈ lw_all := lw_g (lw_at lw_m8 175 rfl) rfl
theorem q1966 : (Jvm.Cond.privateMethod ({ cls := "WingTramsModel", name := "copies", desc := "([I[I)V" } : Jvm.MethodName)) ∈ lw_tbl := lw_at lw_m8 176 rfl
theorem q1967 : (Jvm.Cond.instanceMethod ({ cls := "WingTramsModel", name := "copies", desc := "([I[I)V" } : Jvm.MethodName)) ∈ lw_all := lw_g (lw_at lw_m8 177 rfl) rfl
theorem q1968 : (Jvm.Cond.code ({ cls := "WingTramsModel", name := "copies", desc := "([I[I)V" } : Jvm.MethodName) prog_14_method_6_code (4 : Nat) (Option.none : Option Jvm.ClassFile.FieldType)) ∈ lw_all := lw_g (lw_at lw_m8 178 rfl) rfl
theorem q1969 : (Jvm.Cond.methodLink "WingTramsModel" (332 : Nat) ({ cls := "WingTramsModel", name := "measures", desc := "()V" } : Jvm.MethodName)) ∈ lw_all := lw_g (lw_at lw_m8 179 rfl) rfl
theorem q1970 : (Jvm.Cond.privateMethod ({ cls := "WingTramsModel", name := "measures", desc := "()V" } : Jvm.MethodName)) ∈ lw_tbl := lw_at lw_m8 180 rfl
theorem q1971 : (Jvm.Cond.instanceMethod ({ cls := "WingTramsModel", name := "measures", desc := "()V" } : Jvm.MethodName)) ∈ lw_all := lw_g (lw_at lw_m8 181 rfl) rfl
theorem q1972 : (Jvm.Cond.code ({ cls := "WingTramsModel", name := "measures", desc := "()V" } : Jvm.MethodName) prog_14_method_44_code (4 : Nat) (Option.none : Option Jvm.ClassFile.FieldType)) ∈ lw_all := lw_g (lw_at lw_m8 182 rfl) rfl
theorem q1973 : (Jvm.Cond.constant "WingTramsModel" (348 : Nat) (1000000 : Int32)) ∈ lw_all := lw_g (lw_at lw_m8 183 rfl) rfl
theorem q1975 : (Jvm.Cond.instanceMethod ({ cls := "WingTramsModel", name := "fault", desc := "()I" } : Jvm.MethodName)) ∈ lw_all := lw_g (lw_at lw_m8 185 rfl) rfl
theorem q1976 : (Jvm.Cond.selects "WingTramsModel" ({ cls := "WingTramsModel", name := "fault", desc := "()I" } : Jvm.MethodName) ({ cls := "WingTramsModel", name := "fault", desc := "()I" } : Jvm.MethodName)) ∈ lw_all := lw_g (lw_at lw_m8 186 rfl) rfl
theorem q1977 : (Jvm.Cond.code ({ cls := "WingTramsModel", name := "fault", desc := "()I" } : Jvm.MethodName) prog_14_method_40_code (1 : Nat) (Option.some Jvm.ClassFile.FieldType.int)) ∈ lw_all := lw_g (lw_at lw_m8 187 rfl) rfl
theorem q1979 : (Jvm.Cond.instanceMethod ({ cls := "WingTramsModel", name := "undo", desc := "()I" } : Jvm.MethodName)) ∈ lw_all := lw_g (lw_at lw_m8 189 rfl) rfl
theorem q1980 : (Jvm.Cond.selects "WingTramsModel" ({ cls := "WingTramsModel", name := "undo", desc := "()I" } : Jvm.MethodName) ({ cls := "WingTramsModel", name := "undo", desc := "()I" } : Jvm.MethodName)) ∈ lw_all := lw_g (lw_at lw_m8 190 rfl) rfl
theorem q1981 : (Jvm.Cond.code ({ cls := "WingTramsModel", name := "undo", desc := "()I" } : Jvm.MethodName) prog_14_method_43_code (1 : Nat) (Option.some Jvm.ClassFile.FieldType.int)) ∈ lw_all := lw_g (lw_at lw_m8 191 rfl) rfl
theorem q1983 : (Jvm.Cond.instanceMethod ({ cls := "WingTramsModel", name := "count", desc := "(I)I" } : Jvm.MethodName)) ∈ lw_all := lw_g (lw_at lw_m8 193 rfl) rfl
theorem q1984 : (Jvm.Cond.selects "WingTramsModel" ({ cls := "WingTramsModel", name := "count", desc := "(I)I" } : Jvm.MethodName) ({ cls := "WingTramsModel", name := "count", desc := "(I)I" } : Jvm.MethodName)) ∈ lw_all := lw_g (lw_at lw_m8 194 rfl) rfl
theorem q1985 : (Jvm.Cond.code ({ cls := "WingTramsModel", name := "count", desc := "(I)I" } : Jvm.MethodName) prog_14_method_59_code (2 : Nat) (Option.some Jvm.ClassFile.FieldType.int)) ∈ lw_all := lw_g (lw_at lw_m8 195 rfl) rfl
theorem q1986 : (Jvm.Cond.methodLink "WingTramsModel" (385 : Nat) ({ cls := "WingTramsModel", name := "within", desc := "(III)Z" } : Jvm.MethodName)) ∈ lw_all := lw_g (lw_at lw_m8 196 rfl) rfl
theorem q1987 : (Jvm.Cond.static ({ cls := "WingTramsModel", name := "within", desc := "(III)Z" } : Jvm.MethodName)) ∈ lw_all := lw_g (lw_at lw_m8 197 rfl) rfl
theorem q1988 : (Jvm.Cond.code ({ cls := "WingTramsModel", name := "within", desc := "(III)Z" } : Jvm.MethodName) prog_14_method_4_code (3 : Nat) (Option.some Jvm.ClassFile.FieldType.boolean)) ∈ lw_all := lw_g (lw_at lw_m8 198 rfl) rfl
theorem q1989 : (Jvm.Cond.methodLink "WingTramsModel" (389 : Nat) ({ cls := "WingTramsModel", name := "homes", desc := "()I" } : Jvm.MethodName)) ∈ lw_all := lw_g (lw_at lw_m8 199 rfl) rfl
theorem q1990 : (Jvm.Cond.privateMethod ({ cls := "WingTramsModel", name := "homes", desc := "()I" } : Jvm.MethodName)) ∈ lw_tbl := lw_at lw_m8 200 rfl
theorem q1991 : (Jvm.Cond.instanceMethod ({ cls := "WingTramsModel", name := "homes", desc := "()I" } : Jvm.MethodName)) ∈ lw_all := lw_g (lw_at lw_m8 201 rfl) rfl
theorem q1992 : (Jvm.Cond.code ({ cls := "WingTramsModel", name := "homes", desc := "()I" } : Jvm.MethodName) prog_14_method_58_code (3 : Nat) (Option.some Jvm.ClassFile.FieldType.int)) ∈ lw_all := lw_g (lw_at lw_m8 202 rfl) rfl
theorem q1993 : (Jvm.Cond.methodLink "WingTramsModel" (379 : Nat) ({ cls := "WingTramsModel", name := "nights", desc := "()V" } : Jvm.MethodName)) ∈ lw_all := lw_g (lw_at lw_m8 203 rfl) rfl
theorem q1994 : (Jvm.Cond.privateMethod ({ cls := "WingTramsModel", name := "nights", desc := "()V" } : Jvm.MethodName)) ∈ lw_tbl := lw_at lw_m8 204 rfl
theorem q1995 : (Jvm.Cond.instanceMethod ({ cls := "WingTramsModel", name := "nights", desc := "()V" } : Jvm.MethodName)) ∈ lw_all := lw_g (lw_at lw_m8 205 rfl) rfl
theorem q1996 : (Jvm.Cond.code ({ cls := "WingTramsModel", name := "nights", desc := "()V" } : Jvm.MethodName) prog_14_method_50_code (6 : Nat) (Option.none : Option Jvm.ClassFile.FieldType)) ∈ lw_all := lw_g (lw_at lw_m8 206 rfl) rfl
theorem q1997 : (Jvm.Cond.methodLink "WingTramsModel" (356 : Nat) ({ cls := "WingTramsModel", name := "nests", desc := "(I)Z" } : Jvm.MethodName)) ∈ lw_all := lw_g (lw_at lw_m8 207 rfl) rfl
theorem q1998 : (Jvm.Cond.privateMethod ({ cls := "WingTramsModel", name := "nests", desc := "(I)Z" } : Jvm.MethodName)) ∈ lw_tbl := lw_at lw_m8 208 rfl
theorem q1999 : (Jvm.Cond.instanceMethod ({ cls := "WingTramsModel", name := "nests", desc := "(I)Z" } : Jvm.MethodName)) ∈ lw_all := lw_g (lw_at lw_m8 209 rfl) rfl
theorem q2000 : (Jvm.Cond.code ({ cls := "WingTramsModel", name := "nests", desc := "(I)Z" } : Jvm.MethodName) prog_14_method_47_code (2 : Nat) (Option.some Jvm.ClassFile.FieldType.boolean)) ∈ lw_all := lw_g (lw_at lw_m8 210 rfl) rfl
theorem q2001 : (Jvm.Cond.methodLink "WingTramsModel" (359 : Nat) ({ cls := "WingTramsModel", name := "huntsFor", desc := "(II)I" } : Jvm.MethodName)) ∈ lw_all := lw_g (lw_at lw_m8 211 rfl) rfl
theorem q2002 : (Jvm.Cond.privateMethod ({ cls := "WingTramsModel", name := "huntsFor", desc := "(II)I" } : Jvm.MethodName)) ∈ lw_tbl := lw_at lw_m8 212 rfl
theorem q2003 : (Jvm.Cond.instanceMethod ({ cls := "WingTramsModel", name := "huntsFor", desc := "(II)I" } : Jvm.MethodName)) ∈ lw_all := lw_g (lw_at lw_m8 213 rfl) rfl
theorem q2004 : (Jvm.Cond.code ({ cls := "WingTramsModel", name := "huntsFor", desc := "(II)I" } : Jvm.MethodName) prog_14_method_48_code (4 : Nat) (Option.some Jvm.ClassFile.FieldType.int)) ∈ lw_all := lw_g (lw_at lw_m8 214 rfl) rfl
theorem q2005 : (Jvm.Cond.methodLink "WingTramsModel" (353 : Nat) ({ cls := "WingTramsModel", name := "reckons", desc := "(I)I" } : Jvm.MethodName)) ∈ lw_all := lw_g (lw_at lw_m8 215 rfl) rfl
theorem q2006 : (Jvm.Cond.privateMethod ({ cls := "WingTramsModel", name := "reckons", desc := "(I)I" } : Jvm.MethodName)) ∈ lw_tbl := lw_at lw_m8 216 rfl
theorem q2007 : (Jvm.Cond.instanceMethod ({ cls := "WingTramsModel", name := "reckons", desc := "(I)I" } : Jvm.MethodName)) ∈ lw_all := lw_g (lw_at lw_m8 217 rfl) rfl
theorem q2008 : (Jvm.Cond.code ({ cls := "WingTramsModel", name := "reckons", desc := "(I)I" } : Jvm.MethodName) prog_14_method_46_code (5 : Nat) (Option.some Jvm.ClassFile.FieldType.int)) ∈ lw_all := lw_g (lw_at lw_m8 218 rfl) rfl
theorem q2009 : (Jvm.Cond.methodLink "WingTramsModel" (349 : Nat) ({ cls := "WingTramsModel", name := "works", desc := "(III)I" } : Jvm.MethodName)) ∈ lw_all := lw_g (lw_at lw_m8 219 rfl) rfl
theorem q2010 : (Jvm.Cond.static ({ cls := "WingTramsModel", name := "works", desc := "(III)I" } : Jvm.MethodName)) ∈ lw_all := lw_g (lw_at lw_m8 220 rfl) rfl
theorem q2011 : (Jvm.Cond.code ({ cls := "WingTramsModel", name := "works", desc := "(III)I" } : Jvm.MethodName) prog_14_method_45_code (3 : Nat) (Option.some Jvm.ClassFile.FieldType.int)) ∈ lw_all := lw_g (lw_at lw_m8 221 rfl) rfl
theorem q2012 : (Jvm.Cond.methodLink "WingTramsModel" (362 : Nat) ({ cls := "WingTramsModel", name := "flies", desc := "(III)I" } : Jvm.MethodName)) ∈ lw_all := lw_g (lw_at lw_m8 222 rfl) rfl
theorem q2013 : (Jvm.Cond.privateMethod ({ cls := "WingTramsModel", name := "flies", desc := "(III)I" } : Jvm.MethodName)) ∈ lw_tbl := lw_at lw_m8 223 rfl
theorem q2014 : (Jvm.Cond.instanceMethod ({ cls := "WingTramsModel", name := "flies", desc := "(III)I" } : Jvm.MethodName)) ∈ lw_all := lw_g (lw_at lw_m8 224 rfl) rfl
theorem q2015 : (Jvm.Cond.code ({ cls := "WingTramsModel", name := "flies", desc := "(III)I" } : Jvm.MethodName) prog_14_method_49_code (5 : Nat) (Option.some Jvm.ClassFile.FieldType.int)) ∈ lw_all := lw_g (lw_at lw_m8 225 rfl) rfl
theorem q2016 : (Jvm.Cond.methodLink "WingTramsModel" (382 : Nat) ({ cls := "WingTramsModel", name := "soonest", desc := "(I)I" } : Jvm.MethodName)) ∈ lw_all := lw_g (lw_at lw_m8 226 rfl) rfl
theorem q2017 : (Jvm.Cond.privateMethod ({ cls := "WingTramsModel", name := "soonest", desc := "(I)I" } : Jvm.MethodName)) ∈ lw_tbl := lw_at lw_m8 227 rfl
theorem q2018 : (Jvm.Cond.instanceMethod ({ cls := "WingTramsModel", name := "soonest", desc := "(I)I" } : Jvm.MethodName)) ∈ lw_all := lw_g (lw_at lw_m8 228 rfl) rfl
theorem q2019 : (Jvm.Cond.code ({ cls := "WingTramsModel", name := "soonest", desc := "(I)I" } : Jvm.MethodName) prog_14_method_56_code (3 : Nat) (Option.some Jvm.ClassFile.FieldType.int)) ∈ lw_all := lw_g (lw_at lw_m8 229 rfl) rfl
theorem q2020 : (Jvm.Cond.methodLink "WingTramsModel" (373 : Nat) ({ cls := "WingTramsModel", name := "rides", desc := "(I)V" } : Jvm.MethodName)) ∈ lw_all := lw_g (lw_at lw_m8 230 rfl) rfl
theorem q2021 : (Jvm.Cond.privateMethod ({ cls := "WingTramsModel", name := "rides", desc := "(I)V" } : Jvm.MethodName)) ∈ lw_tbl := lw_at lw_m8 231 rfl
theorem q2022 : (Jvm.Cond.instanceMethod ({ cls := "WingTramsModel", name := "rides", desc := "(I)V" } : Jvm.MethodName)) ∈ lw_all := lw_g (lw_at lw_m8 232 rfl) rfl
theorem q2023 : (Jvm.Cond.code ({ cls := "WingTramsModel", name := "rides", desc := "(I)V" } : Jvm.MethodName) prog_14_method_54_code (4 : Nat) (Option.none : Option Jvm.ClassFile.FieldType)) ∈ lw_all := lw_g (lw_at lw_m8 233 rfl) rfl
theorem q2024 : (Jvm.Cond.methodLink "WingTramsModel" (365 : Nat) ({ cls := "WingTramsModel", name := "waitsAt", desc := "(I[I)V" } : Jvm.MethodName)) ∈ lw_all := lw_g (lw_at lw_m8 234 rfl) rfl
theorem q2025 : (Jvm.Cond.privateMethod ({ cls := "WingTramsModel", name := "waitsAt", desc := "(I[I)V" } : Jvm.MethodName)) ∈ lw_tbl := lw_at lw_m8 235 rfl
theorem q2026 : (Jvm.Cond.instanceMethod ({ cls := "WingTramsModel", name := "waitsAt", desc := "(I[I)V" } : Jvm.MethodName)) ∈ lw_all := lw_g (lw_at lw_m8 236 rfl) rfl
theorem q2027 : (Jvm.Cond.code ({ cls := "WingTramsModel", name := "waitsAt", desc := "(I[I)V" } : Jvm.MethodName) prog_14_method_52_code (4 : Nat) (Option.none : Option Jvm.ClassFile.FieldType)) ∈ lw_all := lw_g (lw_at lw_m8 237 rfl) rfl
theorem q2028 : (Jvm.Cond.methodLink "WingTramsModel" (369 : Nat) ({ cls := "WingTramsModel", name := "takes", desc := "(I[II[II)Z" } : Jvm.MethodName)) ∈ lw_all := lw_g (lw_at lw_m8 238 rfl) rfl
theorem q2029 : (Jvm.Cond.privateMethod ({ cls := "WingTramsModel", name := "takes", desc := "(I[II[II)Z" } : Jvm.MethodName)) ∈ lw_tbl := lw_at lw_m8 239 rfl
theorem q2030 : (Jvm.Cond.instanceMethod ({ cls := "WingTramsModel", name := "takes", desc := "(I[II[II)Z" } : Jvm.MethodName)) ∈ lw_all := lw_g (lw_at lw_m9 0 rfl) rfl
theorem q2031 : (Jvm.Cond.code ({ cls := "WingTramsModel", name := "takes", desc := "(I[II[II)Z" } : Jvm.MethodName) prog_14_method_53_code (10 : Nat) (Option.some Jvm.ClassFile.FieldType.boolean)) ∈ lw_all := lw_g (lw_at lw_m9 1 rfl) rfl
theorem q2032 : (Jvm.Cond.methodLink "WingTramsModel" (376 : Nat) ({ cls := "WingTramsModel", name := "homeOf", desc := "(I)I" } : Jvm.MethodName)) ∈ lw_all := lw_g (lw_at lw_m9 2 rfl) rfl
theorem q2033 : (Jvm.Cond.privateMethod ({ cls := "WingTramsModel", name := "homeOf", desc := "(I)I" } : Jvm.MethodName)) ∈ lw_tbl := lw_at lw_m9 3 rfl
theorem q2034 : (Jvm.Cond.instanceMethod ({ cls := "WingTramsModel", name := "homeOf", desc := "(I)I" } : Jvm.MethodName)) ∈ lw_all := lw_g (lw_at lw_m9 4 rfl) rfl
theorem q2035 : (Jvm.Cond.code ({ cls := "WingTramsModel", name := "homeOf", desc := "(I)I" } : Jvm.MethodName) prog_14_method_55_code (2 : Nat) (Option.some Jvm.ClassFile.FieldType.int)) ∈ lw_all := lw_g (lw_at lw_m9 5 rfl) rfl
theorem q2037 : (Jvm.Cond.instanceMethod ({ cls := "WingTramsModel", name := "roof", desc := "(II)I" } : Jvm.MethodName)) ∈ lw_all := lw_g (lw_at lw_m9 7 rfl) rfl
theorem q2038 : (Jvm.Cond.selects "WingTramsModel" ({ cls := "WingTramsModel", name := "roof", desc := "(II)I" } : Jvm.MethodName) ({ cls := "WingTramsModel", name := "roof", desc := "(II)I" } : Jvm.MethodName)) ∈ lw_all := lw_g (lw_at lw_m9 8 rfl) rfl
theorem q2039 : (Jvm.Cond.code ({ cls := "WingTramsModel", name := "roof", desc := "(II)I" } : Jvm.MethodName) prog_14_method_64_code (5 : Nat) (Option.some Jvm.ClassFile.FieldType.int)) ∈ lw_all := lw_g (lw_at lw_m9 9 rfl) rfl
theorem q2040 : (Jvm.Cond.methodLink "WingTramsModel" (392 : Nat) ({ cls := "WingTramsModel", name := "isRoof", desc := "(I)Z" } : Jvm.MethodName)) ∈ lw_all := lw_g (lw_at lw_m9 10 rfl) rfl
theorem q2041 : (Jvm.Cond.privateMethod ({ cls := "WingTramsModel", name := "isRoof", desc := "(I)Z" } : Jvm.MethodName)) ∈ lw_tbl := lw_at lw_m9 11 rfl
theorem q2042 : (Jvm.Cond.instanceMethod ({ cls := "WingTramsModel", name := "isRoof", desc := "(I)Z" } : Jvm.MethodName)) ∈ lw_all := lw_g (lw_at lw_m9 12 rfl) rfl
theorem q2043 : (Jvm.Cond.code ({ cls := "WingTramsModel", name := "isRoof", desc := "(I)Z" } : Jvm.MethodName) prog_14_method_60_code (2 : Nat) (Option.some Jvm.ClassFile.FieldType.boolean)) ∈ lw_all := lw_g (lw_at lw_m9 13 rfl) rfl
theorem q2044 : (Jvm.Cond.methodLink "WingTramsModel" (395 : Nat) ({ cls := "WingTramsModel", name := "isWhat", desc := "(II)Z" } : Jvm.MethodName)) ∈ lw_all := lw_g (lw_at lw_m9 14 rfl) rfl
theorem q2045 : (Jvm.Cond.privateMethod ({ cls := "WingTramsModel", name := "isWhat", desc := "(II)Z" } : Jvm.MethodName)) ∈ lw_tbl := lw_at lw_m9 15 rfl
theorem q2046 : (Jvm.Cond.instanceMethod ({ cls := "WingTramsModel", name := "isWhat", desc := "(II)Z" } : Jvm.MethodName)) ∈ lw_all := lw_g (lw_at lw_m9 16 rfl) rfl
theorem q2047 : (Jvm.Cond.code ({ cls := "WingTramsModel", name := "isWhat", desc := "(II)Z" } : Jvm.MethodName) prog_14_method_63_code (3 : Nat) (Option.some Jvm.ClassFile.FieldType.boolean)) ∈ lw_all := lw_g (lw_at lw_m9 17 rfl) rfl
theorem q2049 : (Jvm.Cond.instanceMethod ({ cls := "WingTramsModel", name := "flight", desc := "(II)I" } : Jvm.MethodName)) ∈ lw_all := lw_g (lw_at lw_m9 19 rfl) rfl
theorem q2050 : (Jvm.Cond.selects "WingTramsModel" ({ cls := "WingTramsModel", name := "flight", desc := "(II)I" } : Jvm.MethodName) ({ cls := "WingTramsModel", name := "flight", desc := "(II)I" } : Jvm.MethodName)) ∈ lw_all := lw_g (lw_at lw_m9 20 rfl) rfl
theorem q2051 : (Jvm.Cond.code ({ cls := "WingTramsModel", name := "flight", desc := "(II)I" } : Jvm.MethodName) prog_14_method_65_code (3 : Nat) (Option.some Jvm.ClassFile.FieldType.int)) ∈ lw_all := lw_g (lw_at lw_m9 21 rfl) rfl
theorem q2053 : (Jvm.Cond.instanceMethod ({ cls := "WingTramsModel", name := "owl", desc := "(II)I" } : Jvm.MethodName)) ∈ lw_all := lw_g (lw_at lw_m9 23 rfl) rfl
theorem q2054 : (Jvm.Cond.selects "WingTramsModel" ({ cls := "WingTramsModel", name := "owl", desc := "(II)I" } : Jvm.MethodName) ({ cls := "WingTramsModel", name := "owl", desc := "(II)I" } : Jvm.MethodName)) ∈ lw_all := lw_g (lw_at lw_m9 24 rfl) rfl
theorem q2055 : (Jvm.Cond.code ({ cls := "WingTramsModel", name := "owl", desc := "(II)I" } : Jvm.MethodName) prog_14_method_67_code (3 : Nat) (Option.some Jvm.ClassFile.FieldType.int)) ∈ lw_all := lw_g (lw_at lw_m9 25 rfl) rfl
theorem q2056 : (Jvm.Cond.methodLink "WingTramsModel" (402 : Nat) ({ cls := "WingTramsModel", name := "isOwl", desc := "(I)Z" } : Jvm.MethodName)) ∈ lw_all := lw_g (lw_at lw_m9 26 rfl) rfl
theorem q2057 : (Jvm.Cond.privateMethod ({ cls := "WingTramsModel", name := "isOwl", desc := "(I)Z" } : Jvm.MethodName)) ∈ lw_tbl := lw_at lw_m9 27 rfl
theorem q2058 : (Jvm.Cond.instanceMethod ({ cls := "WingTramsModel", name := "isOwl", desc := "(I)Z" } : Jvm.MethodName)) ∈ lw_all := lw_g (lw_at lw_m9 28 rfl) rfl
theorem q2059 : (Jvm.Cond.code ({ cls := "WingTramsModel", name := "isOwl", desc := "(I)Z" } : Jvm.MethodName) prog_14_method_61_code (2 : Nat) (Option.some Jvm.ClassFile.FieldType.boolean)) ∈ lw_all := lw_g (lw_at lw_m9 29 rfl) rfl
theorem q2060 : (Jvm.Cond.methodLink "WingTramsModel" (405 : Nat) ({ cls := "WingTramsModel", name := "together", desc := "(I)I" } : Jvm.MethodName)) ∈ lw_all := lw_g (lw_at lw_m9 30 rfl) rfl
theorem q2061 : (Jvm.Cond.privateMethod ({ cls := "WingTramsModel", name := "together", desc := "(I)I" } : Jvm.MethodName)) ∈ lw_tbl := lw_at lw_m9 31 rfl
theorem q2062 : (Jvm.Cond.instanceMethod ({ cls := "WingTramsModel", name := "together", desc := "(I)I" } : Jvm.MethodName)) ∈ lw_all := lw_g (lw_at lw_m9 32 rfl) rfl
theorem q2063 : (Jvm.Cond.code ({ cls := "WingTramsModel", name := "together", desc := "(I)I" } : Jvm.MethodName) prog_14_method_66_code (7 : Nat) (Option.some Jvm.ClassFile.FieldType.int)) ∈ lw_all := lw_g (lw_at lw_m9 33 rfl) rfl
theorem q2064 : (Jvm.Cond.methodLink "WingTramsModel" (399 : Nat) ({ cls := "WingTramsModel", name := "whereIs", desc := "(II)I" } : Jvm.MethodName)) ∈ lw_all := lw_g (lw_at lw_m9 34 rfl) rfl
theorem q2065 : (Jvm.Cond.privateMethod ({ cls := "WingTramsModel", name := "whereIs", desc := "(II)I" } : Jvm.MethodName)) ∈ lw_tbl := lw_at lw_m9 35 rfl
theorem q2066 : (Jvm.Cond.instanceMethod ({ cls := "WingTramsModel", name := "whereIs", desc := "(II)I" } : Jvm.MethodName)) ∈ lw_all := lw_g (lw_at lw_m9 36 rfl) rfl
theorem q2067 : (Jvm.Cond.code ({ cls := "WingTramsModel", name := "whereIs", desc := "(II)I" } : Jvm.MethodName) prog_14_method_51_code (5 : Nat) (Option.some Jvm.ClassFile.FieldType.int)) ∈ lw_all := lw_g (lw_at lw_m9 37 rfl) rfl
theorem q2069 : (Jvm.Cond.instanceMethod ({ cls := "WingTramsModel", name := "stop", desc := "(III)I" } : Jvm.MethodName)) ∈ lw_all := lw_g (lw_at lw_m9 39 rfl) rfl
theorem q2070 : (Jvm.Cond.selects "WingTramsModel" ({ cls := "WingTramsModel", name := "stop", desc := "(III)I" } : Jvm.MethodName) ({ cls := "WingTramsModel", name := "stop", desc := "(III)I" } : Jvm.MethodName)) ∈ lw_all := lw_g (lw_at lw_m9 40 rfl) rfl
theorem q2071 : (Jvm.Cond.code ({ cls := "WingTramsModel", name := "stop", desc := "(III)I" } : Jvm.MethodName) prog_14_method_68_code (4 : Nat) (Option.some Jvm.ClassFile.FieldType.int)) ∈ lw_all := lw_g (lw_at lw_m9 41 rfl) rfl
theorem q2073 : (Jvm.Cond.instanceMethod ({ cls := "WingTramsModel", name := "rider", desc := "(II)I" } : Jvm.MethodName)) ∈ lw_all := lw_g (lw_at lw_m9 43 rfl) rfl
theorem q2074 : (Jvm.Cond.selects "WingTramsModel" ({ cls := "WingTramsModel", name := "rider", desc := "(II)I" } : Jvm.MethodName) ({ cls := "WingTramsModel", name := "rider", desc := "(II)I" } : Jvm.MethodName)) ∈ lw_all := lw_g (lw_at lw_m9 44 rfl) rfl
theorem q2075 : (Jvm.Cond.code ({ cls := "WingTramsModel", name := "rider", desc := "(II)I" } : Jvm.MethodName) prog_14_method_69_code (3 : Nat) (Option.some Jvm.ClassFile.FieldType.int)) ∈ lw_all := lw_g (lw_at lw_m9 45 rfl) rfl
theorem q2076 : (Jvm.Cond.methodLink "WingTramsModel" (408 : Nat) ({ cls := "WingTramsModel", name := "isRider", desc := "(I)Z" } : Jvm.MethodName)) ∈ lw_all := lw_g (lw_at lw_m9 46 rfl) rfl
theorem q2077 : (Jvm.Cond.privateMethod ({ cls := "WingTramsModel", name := "isRider", desc := "(I)Z" } : Jvm.MethodName)) ∈ lw_tbl := lw_at lw_m9 47 rfl
theorem q2078 : (Jvm.Cond.instanceMethod ({ cls := "WingTramsModel", name := "isRider", desc := "(I)Z" } : Jvm.MethodName)) ∈ lw_all := lw_g (lw_at lw_m9 48 rfl) rfl
theorem q2079 : (Jvm.Cond.code ({ cls := "WingTramsModel", name := "isRider", desc := "(I)Z" } : Jvm.MethodName) prog_14_method_62_code (2 : Nat) (Option.some Jvm.ClassFile.FieldType.boolean)) ∈ lw_all := lw_g (lw_at lw_m9 49 rfl) rfl
theorem q2081 : (Jvm.Cond.instanceMethod ({ cls := "WingTramsModel", name := "where", desc := "(II)I" } : Jvm.MethodName)) ∈ lw_all := lw_g (lw_at lw_m9 51 rfl) rfl
theorem q2082 : (Jvm.Cond.selects "WingTramsModel" ({ cls := "WingTramsModel", name := "where", desc := "(II)I" } : Jvm.MethodName) ({ cls := "WingTramsModel", name := "where", desc := "(II)I" } : Jvm.MethodName)) ∈ lw_all := lw_g (lw_at lw_m9 52 rfl) rfl
theorem q2083 : (Jvm.Cond.code ({ cls := "WingTramsModel", name := "where", desc := "(II)I" } : Jvm.MethodName) prog_14_method_70_code (3 : Nat) (Option.some Jvm.ClassFile.FieldType.int)) ∈ lw_all := lw_g (lw_at lw_m9 53 rfl) rfl
theorem q2085 : (Jvm.Cond.instanceMethod ({ cls := "WingTramsModel", name := "obey", desc := "(I)Z" } : Jvm.MethodName)) ∈ lw_all := lw_g (lw_at lw_m9 55 rfl) rfl
theorem q2086 : (Jvm.Cond.selects "WingTramsModel" ({ cls := "WingTramsModel", name := "obey", desc := "(I)Z" } : Jvm.MethodName) ({ cls := "WingTramsModel", name := "obey", desc := "(I)Z" } : Jvm.MethodName)) ∈ lw_all := lw_g (lw_at lw_m9 56 rfl) rfl
theorem q2087 : (Jvm.Cond.code ({ cls := "WingTramsModel", name := "obey", desc := "(I)Z" } : Jvm.MethodName) prog_14_method_71_code (2 : Nat) (Option.some Jvm.ClassFile.FieldType.boolean)) ∈ lw_all := lw_g (lw_at lw_m9 57 rfl) rfl
theorem q2088 : (Jvm.Cond.methodLink "WingTramsModel" (411 : Nat) ({ cls := "WingTramsModel", name := "refuses", desc := "(I)I" } : Jvm.MethodName)) ∈ lw_all := lw_g (lw_at lw_m9 58 rfl) rfl
theorem q2089 : (Jvm.Cond.privateMethod ({ cls := "WingTramsModel", name := "refuses", desc := "(I)I" } : Jvm.MethodName)) ∈ lw_tbl := lw_at lw_m9 59 rfl
theorem q2090 : (Jvm.Cond.instanceMethod ({ cls := "WingTramsModel", name := "refuses", desc := "(I)I" } : Jvm.MethodName)) ∈ lw_all := lw_g (lw_at lw_m9 60 rfl) rfl
theorem q2091 : (Jvm.Cond.code ({ cls := "WingTramsModel", name := "refuses", desc := "(I)I" } : Jvm.MethodName) prog_14_method_41_code (2 : Nat) (Option.some Jvm.ClassFile.FieldType.int)) ∈ lw_all := lw_g (lw_at lw_m9 61 rfl) rfl
theorem q2092 : (Jvm.Cond.methodLink "WingTramsModel" (414 : Nat) ({ cls := "WingTramsModel", name := "becomes", desc := "(II)I" } : Jvm.MethodName)) ∈ lw_all := lw_g (lw_at lw_m9 62 rfl) rfl
theorem q2093 : (Jvm.Cond.privateMethod ({ cls := "WingTramsModel", name := "becomes", desc := "(II)I" } : Jvm.MethodName)) ∈ lw_tbl := lw_at lw_m9 63 rfl
theorem q2094 : (Jvm.Cond.instanceMethod ({ cls := "WingTramsModel", name := "becomes", desc := "(II)I" } : Jvm.MethodName)) ∈ lw_all := lw_g (lw_at lw_m9 64 rfl) rfl
theorem q2095 : (Jvm.Cond.code ({ cls := "WingTramsModel", name := "becomes", desc := "(II)I" } : Jvm.MethodName) prog_14_method_42_code (4 : Nat) (Option.some Jvm.ClassFile.FieldType.int)) ∈ lw_all := lw_g (lw_at lw_m9 65 rfl) rfl
theorem q2097 : (Jvm.Cond.instanceMethod ({ cls := "WingTramsModel", name := "moon", desc := "(I)I" } : Jvm.MethodName)) ∈ lw_all := lw_g (lw_at lw_m9 67 rfl) rfl
theorem q2098 : (Jvm.Cond.selects "WingTramsModel" ({ cls := "WingTramsModel", name := "moon", desc := "(I)I" } : Jvm.MethodName) ({ cls := "WingTramsModel", name := "moon", desc := "(I)I" } : Jvm.MethodName)) ∈ lw_all := lw_g (lw_at lw_m9 68 rfl) rfl
theorem q2099 : (Jvm.Cond.code ({ cls := "WingTramsModel", name := "moon", desc := "(I)I" } : Jvm.MethodName) prog_14_method_72_code (2 : Nat) (Option.some Jvm.ClassFile.FieldType.int)) ∈ lw_all := lw_g (lw_at lw_m9 69 rfl) rfl
theorem q2101 : (Jvm.Cond.instanceMethod ({ cls := "WingTramsModel", name := "wet", desc := "(Z)Z" } : Jvm.MethodName)) ∈ lw_all := lw_g (lw_at lw_m9 71 rfl) rfl
theorem q2102 : (Jvm.Cond.selects "WingTramsModel" ({ cls := "WingTramsModel", name := "wet", desc := "(Z)Z" } : Jvm.MethodName) ({ cls := "WingTramsModel", name := "wet", desc := "(Z)Z" } : Jvm.MethodName)) ∈ lw_all := lw_g (lw_at lw_m9 72 rfl) rfl
theorem q2103 : (Jvm.Cond.code ({ cls := "WingTramsModel", name := "wet", desc := "(Z)Z" } : Jvm.MethodName) prog_14_method_73_code (2 : Nat) (Option.some Jvm.ClassFile.FieldType.boolean)) ∈ lw_all := lw_g (lw_at lw_m9 73 rfl) rfl
theorem q2105 : (Jvm.Cond.instanceMethod ({ cls := "WingTramsModel", name := "nest", desc := "(IZ)Z" } : Jvm.MethodName)) ∈ lw_all := lw_g (lw_at lw_m9 75 rfl) rfl
theorem q2106 : (Jvm.Cond.selects "WingTramsModel" ({ cls := "WingTramsModel", name := "nest", desc := "(IZ)Z" } : Jvm.MethodName) ({ cls := "WingTramsModel", name := "nest", desc := "(IZ)Z" } : Jvm.MethodName)) ∈ lw_all := lw_g (lw_at lw_m9 76 rfl) rfl
theorem q2107 : (Jvm.Cond.code ({ cls := "WingTramsModel", name := "nest", desc := "(IZ)Z" } : Jvm.MethodName) prog_14_method_74_code (3 : Nat) (Option.some Jvm.ClassFile.FieldType.boolean)) ∈ lw_all := lw_g (lw_at lw_m9 77 rfl) rfl
theorem q2109 : (Jvm.Cond.instanceMethod ({ cls := "WingTramsModel", name := "grain", desc := "(II)I" } : Jvm.MethodName)) ∈ lw_all := lw_g (lw_at lw_m9 79 rfl) rfl
theorem q2110 : (Jvm.Cond.selects "WingTramsModel" ({ cls := "WingTramsModel", name := "grain", desc := "(II)I" } : Jvm.MethodName) ({ cls := "WingTramsModel", name := "grain", desc := "(II)I" } : Jvm.MethodName)) ∈ lw_all := lw_g (lw_at lw_m9 80 rfl) rfl
theorem q2111 : (Jvm.Cond.code ({ cls := "WingTramsModel", name := "grain", desc := "(II)I" } : Jvm.MethodName) prog_14_method_75_code (3 : Nat) (Option.some Jvm.ClassFile.FieldType.int)) ∈ lw_all := lw_g (lw_at lw_m9 81 rfl) rfl
theorem q2113 : (Jvm.Cond.instanceMethod ({ cls := "WingTramsModel", name := "start", desc := "(II)I" } : Jvm.MethodName)) ∈ lw_all := lw_g (lw_at lw_m9 83 rfl) rfl
theorem q2114 : (Jvm.Cond.selects "WingTramsModel" ({ cls := "WingTramsModel", name := "start", desc := "(II)I" } : Jvm.MethodName) ({ cls := "WingTramsModel", name := "start", desc := "(II)I" } : Jvm.MethodName)) ∈ lw_all := lw_g (lw_at lw_m9 84 rfl) rfl
theorem q2115 : (Jvm.Cond.code ({ cls := "WingTramsModel", name := "start", desc := "(II)I" } : Jvm.MethodName) prog_14_method_76_code (3 : Nat) (Option.some Jvm.ClassFile.FieldType.int)) ∈ lw_all := lw_g (lw_at lw_m9 85 rfl) rfl
theorem q2117 : (Jvm.Cond.instanceMethod ({ cls := "WingTramsModel", name := "home", desc := "(I)I" } : Jvm.MethodName)) ∈ lw_all := lw_g (lw_at lw_m9 87 rfl) rfl
theorem q2118 : (Jvm.Cond.selects "WingTramsModel" ({ cls := "WingTramsModel", name := "home", desc := "(I)I" } : Jvm.MethodName) ({ cls := "WingTramsModel", name := "home", desc := "(I)I" } : Jvm.MethodName)) ∈ lw_all := lw_g (lw_at lw_m9 88 rfl) rfl
theorem q2119 : (Jvm.Cond.code ({ cls := "WingTramsModel", name := "home", desc := "(I)I" } : Jvm.MethodName) prog_14_method_78_code (2 : Nat) (Option.some Jvm.ClassFile.FieldType.int)) ∈ lw_all := lw_g (lw_at lw_m9 89 rfl) rfl
theorem q2120 : (Jvm.Cond.methodLink "WingTramsModel" (417 : Nat) ({ cls := "WingTramsModel", name := "shown", desc := "(I)I" } : Jvm.MethodName)) ∈ lw_all := lw_g (lw_at lw_m9 90 rfl) rfl
theorem q2121 : (Jvm.Cond.static ({ cls := "WingTramsModel", name := "shown", desc := "(I)I" } : Jvm.MethodName)) ∈ lw_all := lw_g (lw_at lw_m9 91 rfl) rfl
theorem q2122 : (Jvm.Cond.code ({ cls := "WingTramsModel", name := "shown", desc := "(I)I" } : Jvm.MethodName) prog_14_method_77_code (1 : Nat) (Option.some Jvm.ClassFile.FieldType.int)) ∈ lw_all := lw_g (lw_at lw_m9 92 rfl) rfl
theorem q2124 : (Jvm.Cond.instanceMethod ({ cls := "WingTramsModel", name := "changes", desc := "(I)I" } : Jvm.MethodName)) ∈ lw_all := lw_g (lw_at lw_m9 94 rfl) rfl
theorem q2125 : (Jvm.Cond.selects "WingTramsModel" ({ cls := "WingTramsModel", name := "changes", desc := "(I)I" } : Jvm.MethodName) ({ cls := "WingTramsModel", name := "changes", desc := "(I)I" } : Jvm.MethodName)) ∈ lw_all := lw_g (lw_at lw_m9 95 rfl) rfl
theorem q2126 : (Jvm.Cond.code ({ cls := "WingTramsModel", name := "changes", desc := "(I)I" } : Jvm.MethodName) prog_14_method_80_code (3 : Nat) (Option.some Jvm.ClassFile.FieldType.int)) ∈ lw_all := lw_g (lw_at lw_m9 96 rfl) rfl
theorem q2127 : (Jvm.Cond.methodLink "WingTramsModel" (420 : Nat) ({ cls := "WingTramsModel", name := "owlsFor", desc := "(I)I" } : Jvm.MethodName)) ∈ lw_all := lw_g (lw_at lw_m9 97 rfl) rfl
theorem q2128 : (Jvm.Cond.privateMethod ({ cls := "WingTramsModel", name := "owlsFor", desc := "(I)I" } : Jvm.MethodName)) ∈ lw_tbl := lw_at lw_m9 98 rfl
theorem q2129 : (Jvm.Cond.instanceMethod ({ cls := "WingTramsModel", name := "owlsFor", desc := "(I)I" } : Jvm.MethodName)) ∈ lw_all := lw_g (lw_at lw_m9 99 rfl) rfl
theorem q2130 : (Jvm.Cond.code ({ cls := "WingTramsModel", name := "owlsFor", desc := "(I)I" } : Jvm.MethodName) prog_14_method_79_code (4 : Nat) (Option.some Jvm.ClassFile.FieldType.int)) ∈ lw_all := lw_g (lw_at lw_m9 100 rfl) rfl
theorem q2132 : (Jvm.Cond.instanceMethod ({ cls := "WingTramsModel", name := "cheapest", desc := "(I)I" } : Jvm.MethodName)) ∈ lw_all := lw_g (lw_at lw_m9 102 rfl) rfl
theorem q2133 : (Jvm.Cond.selects "WingTramsModel" ({ cls := "WingTramsModel", name := "cheapest", desc := "(I)I" } : Jvm.MethodName) ({ cls := "WingTramsModel", name := "cheapest", desc := "(I)I" } : Jvm.MethodName)) ∈ lw_all := lw_g (lw_at lw_m9 103 rfl) rfl
theorem q2134 : (Jvm.Cond.code ({ cls := "WingTramsModel", name := "cheapest", desc := "(I)I" } : Jvm.MethodName) prog_14_method_81_code (4 : Nat) (Option.some Jvm.ClassFile.FieldType.int)) ∈ lw_all := lw_g (lw_at lw_m9 104 rfl) rfl
theorem q2136 : (Jvm.Cond.instanceMethod ({ cls := "WingTramsModel", name := "last", desc := "(I)I" } : Jvm.MethodName)) ∈ lw_all := lw_g (lw_at lw_m9 106 rfl) rfl
theorem q2137 : (Jvm.Cond.selects "WingTramsModel" ({ cls := "WingTramsModel", name := "last", desc := "(I)I" } : Jvm.MethodName) ({ cls := "WingTramsModel", name := "last", desc := "(I)I" } : Jvm.MethodName)) ∈ lw_all := lw_g (lw_at lw_m9 107 rfl) rfl
theorem q2138 : (Jvm.Cond.code ({ cls := "WingTramsModel", name := "last", desc := "(I)I" } : Jvm.MethodName) prog_14_method_82_code (7 : Nat) (Option.some Jvm.ClassFile.FieldType.int)) ∈ lw_all := lw_g (lw_at lw_m9 108 rfl) rfl
theorem q2139 : (Jvm.Cond.methodLink "WingTramsModel" (423 : Nat) ({ cls := "WingTramsModel", name := "isThere", desc := "(I)Z" } : Jvm.MethodName)) ∈ lw_all := lw_g (lw_at lw_m9 109 rfl) rfl
theorem q2140 : (Jvm.Cond.privateMethod ({ cls := "WingTramsModel", name := "isThere", desc := "(I)Z" } : Jvm.MethodName)) ∈ lw_tbl := lw_at lw_m9 110 rfl
theorem q2141 : (Jvm.Cond.instanceMethod ({ cls := "WingTramsModel", name := "isThere", desc := "(I)Z" } : Jvm.MethodName)) ∈ lw_all := lw_g (lw_at lw_m9 111 rfl) rfl
theorem q2142 : (Jvm.Cond.code ({ cls := "WingTramsModel", name := "isThere", desc := "(I)Z" } : Jvm.MethodName) prog_14_method_57_code (2 : Nat) (Option.some Jvm.ClassFile.FieldType.boolean)) ∈ lw_all := lw_g (lw_at lw_m9 112 rfl) rfl
theorem q2144 : (Jvm.Cond.instanceMethod ({ cls := "WingTramsModel", name := "never", desc := "()I" } : Jvm.MethodName)) ∈ lw_all := lw_g (lw_at lw_m9 114 rfl) rfl
theorem q2145 : (Jvm.Cond.selects "WingTramsModel" ({ cls := "WingTramsModel", name := "never", desc := "()I" } : Jvm.MethodName) ({ cls := "WingTramsModel", name := "never", desc := "()I" } : Jvm.MethodName)) ∈ lw_all := lw_g (lw_at lw_m9 115 rfl) rfl
theorem q2146 : (Jvm.Cond.code ({ cls := "WingTramsModel", name := "never", desc := "()I" } : Jvm.MethodName) prog_14_method_83_code (3 : Nat) (Option.some Jvm.ClassFile.FieldType.int)) ∈ lw_all := lw_g (lw_at lw_m9 116 rfl) rfl
theorem q2148 : (Jvm.Cond.instanceMethod ({ cls := "WingTramsModel", name := "lure", desc := "(II)I" } : Jvm.MethodName)) ∈ lw_all := lw_g (lw_at lw_m9 118 rfl) rfl
theorem q2149 : (Jvm.Cond.selects "WingTramsModel" ({ cls := "WingTramsModel", name := "lure", desc := "(II)I" } : Jvm.MethodName) ({ cls := "WingTramsModel", name := "lure", desc := "(II)I" } : Jvm.MethodName)) ∈ lw_all := lw_g (lw_at lw_m9 119 rfl) rfl
theorem q2150 : (Jvm.Cond.code ({ cls := "WingTramsModel", name := "lure", desc := "(II)I" } : Jvm.MethodName) prog_14_method_85_code (11 : Nat) (Option.some Jvm.ClassFile.FieldType.int)) ∈ lw_all := lw_g (lw_at lw_m9 120 rfl) rfl
theorem q2151 : (Jvm.Cond.methodLink "WingTramsModel" (426 : Nat) ({ cls := "WingTramsModel", name := "areHome", desc := "(II)Z" } : Jvm.MethodName)) ∈ lw_all := lw_g (lw_at lw_m9 121 rfl) rfl
theorem q2152 : (Jvm.Cond.privateMethod ({ cls := "WingTramsModel", name := "areHome", desc := "(II)Z" } : Jvm.MethodName)) ∈ lw_tbl := lw_at lw_m9 122 rfl
theorem q2153 : (Jvm.Cond.instanceMethod ({ cls := "WingTramsModel", name := "areHome", desc := "(II)Z" } : Jvm.MethodName)) ∈ lw_all := lw_g (lw_at lw_m9 123 rfl) rfl
theorem q2154 : (Jvm.Cond.code ({ cls := "WingTramsModel", name := "areHome", desc := "(II)Z" } : Jvm.MethodName) prog_14_method_84_code (4 : Nat) (Option.some Jvm.ClassFile.FieldType.boolean)) ∈ lw_all := lw_g (lw_at lw_m9 124 rfl) rfl
theorem q2156 : (Jvm.Cond.instanceMethod ({ cls := "WingTramsModel", name := "more", desc := "(I)I" } : Jvm.MethodName)) ∈ lw_all := lw_g (lw_at lw_m9 126 rfl) rfl
theorem q2157 : (Jvm.Cond.selects "WingTramsModel" ({ cls := "WingTramsModel", name := "more", desc := "(I)I" } : Jvm.MethodName) ({ cls := "WingTramsModel", name := "more", desc := "(I)I" } : Jvm.MethodName)) ∈ lw_all := lw_g (lw_at lw_m9 127 rfl) rfl
theorem q2158 : (Jvm.Cond.code ({ cls := "WingTramsModel", name := "more", desc := "(I)I" } : Jvm.MethodName) prog_14_method_86_code (2 : Nat) (Option.some Jvm.ClassFile.FieldType.int)) ∈ lw_all := lw_g (lw_at lw_m9 128 rfl) rfl
theorem q2160 : (Jvm.Cond.instanceMethod ({ cls := "WingTramsModel", name := "beams", desc := "(III)I" } : Jvm.MethodName)) ∈ lw_all := lw_g (lw_at lw_m9 130 rfl) rfl
theorem q2161 : (Jvm.Cond.selects "WingTramsModel" ({ cls := "WingTramsModel", name := "beams", desc := "(III)I" } : Jvm.MethodName) ({ cls := "WingTramsModel", name := "beams", desc := "(III)I" } : Jvm.MethodName)) ∈ lw_all := lw_g (lw_at lw_m9 131 rfl) rfl
theorem q2162 : (Jvm.Cond.code ({ cls := "WingTramsModel", name := "beams", desc := "(III)I" } : Jvm.MethodName) prog_14_method_87_code (11 : Nat) (Option.some Jvm.ClassFile.FieldType.int)) ∈ lw_all := lw_g (lw_at lw_m9 132 rfl) rfl
theorem q2163 : (Jvm.Cond.methodLink "WingTramsModel" (429 : Nat) ({ cls := "WingTramsModel", name := "bits", desc := "(I)I" } : Jvm.MethodName)) ∈ lw_all := lw_g (lw_at lw_m9 133 rfl) rfl
theorem q2164 : (Jvm.Cond.static ({ cls := "WingTramsModel", name := "bits", desc := "(I)I" } : Jvm.MethodName)) ∈ lw_all := lw_g (lw_at lw_m9 134 rfl) rfl
theorem q2165 : (Jvm.Cond.code ({ cls := "WingTramsModel", name := "bits", desc := "(I)I" } : Jvm.MethodName) prog_14_method_7_code (3 : Nat) (Option.some Jvm.ClassFile.FieldType.int)) ∈ lw_all := lw_g (lw_at lw_m9 135 rfl) rfl
theorem q2167 : (Jvm.Cond.instanceMethod ({ cls := "WingTramsModel", name := "straps", desc := "(I)I" } : Jvm.MethodName)) ∈ lw_all := lw_g (lw_at lw_m9 137 rfl) rfl
theorem q2168 : (Jvm.Cond.selects "WingTramsModel" ({ cls := "WingTramsModel", name := "straps", desc := "(I)I" } : Jvm.MethodName) ({ cls := "WingTramsModel", name := "straps", desc := "(I)I" } : Jvm.MethodName)) ∈ lw_all := lw_g (lw_at lw_m9 138 rfl) rfl
theorem q2169 : (Jvm.Cond.code ({ cls := "WingTramsModel", name := "straps", desc := "(I)I" } : Jvm.MethodName) prog_14_method_91_code (5 : Nat) (Option.some Jvm.ClassFile.FieldType.int)) ∈ lw_all := lw_g (lw_at lw_m9 139 rfl) rfl
theorem q2170 : (Jvm.Cond.methodLink "WingTramsModel" (439 : Nat) ({ cls := "WingTramsModel", name := "hangs", desc := "(II)Z" } : Jvm.MethodName)) ∈ lw_all := lw_g (lw_at lw_m9 140 rfl) rfl
theorem q2171 : (Jvm.Cond.privateMethod ({ cls := "WingTramsModel", name := "hangs", desc := "(II)Z" } : Jvm.MethodName)) ∈ lw_tbl := lw_at lw_m9 141 rfl
theorem q2172 : (Jvm.Cond.instanceMethod ({ cls := "WingTramsModel", name := "hangs", desc := "(II)Z" } : Jvm.MethodName)) ∈ lw_all := lw_g (lw_at lw_m9 142 rfl) rfl
theorem q2173 : (Jvm.Cond.code ({ cls := "WingTramsModel", name := "hangs", desc := "(II)Z" } : Jvm.MethodName) prog_14_method_90_code (8 : Nat) (Option.some Jvm.ClassFile.FieldType.boolean)) ∈ lw_all := lw_g (lw_at lw_m9 143 rfl) rfl
theorem q2174 : (Jvm.Cond.methodLink "WingTramsModel" (432 : Nat) ({ cls := "WingTramsModel", name := "onFor", desc := "(III)I" } : Jvm.MethodName)) ∈ lw_all := lw_g (lw_at lw_m9 144 rfl) rfl
theorem q2175 : (Jvm.Cond.privateMethod ({ cls := "WingTramsModel", name := "onFor", desc := "(III)I" } : Jvm.MethodName)) ∈ lw_tbl := lw_at lw_m9 145 rfl
theorem q2176 : (Jvm.Cond.instanceMethod ({ cls := "WingTramsModel", name := "onFor", desc := "(III)I" } : Jvm.MethodName)) ∈ lw_all := lw_g (lw_at lw_m9 146 rfl) rfl
theorem q2177 : (Jvm.Cond.code ({ cls := "WingTramsModel", name := "onFor", desc := "(III)I" } : Jvm.MethodName) prog_14_method_88_code (5 : Nat) (Option.some Jvm.ClassFile.FieldType.int)) ∈ lw_all := lw_g (lw_at lw_m9 147 rfl) rfl
theorem q2178 : (Jvm.Cond.methodLink "WingTramsModel" (435 : Nat) ({ cls := "WingTramsModel", name := "isRoom", desc := "(IIII)Z" } : Jvm.MethodName)) ∈ lw_all := lw_g (lw_at lw_m9 148 rfl) rfl
theorem q2179 : (Jvm.Cond.privateMethod ({ cls := "WingTramsModel", name := "isRoom", desc := "(IIII)Z" } : Jvm.MethodName)) ∈ lw_tbl := lw_at lw_m9 149 rfl
theorem q2180 : (Jvm.Cond.instanceMethod ({ cls := "WingTramsModel", name := "isRoom", desc := "(IIII)Z" } : Jvm.MethodName)) ∈ lw_all := lw_g (lw_at lw_m9 150 rfl) rfl
theorem q2181 : (Jvm.Cond.code ({ cls := "WingTramsModel", name := "isRoom", desc := "(IIII)Z" } : Jvm.MethodName) prog_14_method_89_code (6 : Nat) (Option.some Jvm.ClassFile.FieldType.boolean)) ∈ lw_all := lw_g (lw_at lw_m9 151 rfl) rfl
theorem q2183 : (Jvm.Cond.instanceMethod ({ cls := "WingTramsModel", name := "worth", desc := "(I)I" } : Jvm.MethodName)) ∈ lw_all := lw_g (lw_at lw_m9 153 rfl) rfl
theorem q2184 : (Jvm.Cond.selects "WingTramsModel" ({ cls := "WingTramsModel", name := "worth", desc := "(I)I" } : Jvm.MethodName) ({ cls := "WingTramsModel", name := "worth", desc := "(I)I" } : Jvm.MethodName)) ∈ lw_all := lw_g (lw_at lw_m9 154 rfl) rfl
theorem q2185 : (Jvm.Cond.code ({ cls := "WingTramsModel", name := "worth", desc := "(I)I" } : Jvm.MethodName) prog_14_method_93_code (2 : Nat) (Option.some Jvm.ClassFile.FieldType.int)) ∈ lw_all := lw_g (lw_at lw_m9 155 rfl) rfl
theorem q2186 : (Jvm.Cond.methodLink "WingTramsModel" (442 : Nat) ({ cls := "WingTramsModel", name := "worthOf", desc := "(I)I" } : Jvm.MethodName)) ∈ lw_all := lw_g (lw_at lw_m9 156 rfl) rfl
theorem q2187 : (Jvm.Cond.privateMethod ({ cls := "WingTramsModel", name := "worthOf", desc := "(I)I" } : Jvm.MethodName)) ∈ lw_tbl := lw_at lw_m9 157 rfl
theorem q2188 : (Jvm.Cond.instanceMethod ({ cls := "WingTramsModel", name := "worthOf", desc := "(I)I" } : Jvm.MethodName)) ∈ lw_all := lw_g (lw_at lw_m9 158 rfl) rfl
theorem q2189 : (Jvm.Cond.code ({ cls := "WingTramsModel", name := "worthOf", desc := "(I)I" } : Jvm.MethodName) prog_14_method_92_code (4 : Nat) (Option.some Jvm.ClassFile.FieldType.int)) ∈ lw_all := lw_g (lw_at lw_m9 159 rfl) rfl
theorem q2191 : (Jvm.Cond.instanceMethod ({ cls := "WingTramsModel", name := "vital", desc := "()I" } : Jvm.MethodName)) ∈ lw_all := lw_g (lw_at lw_m9 161 rfl) rfl
theorem q2192 : (Jvm.Cond.selects "WingTramsModel" ({ cls := "WingTramsModel", name := "vital", desc := "()I" } : Jvm.MethodName) ({ cls := "WingTramsModel", name := "vital", desc := "()I" } : Jvm.MethodName)) ∈ lw_all := lw_g (lw_at lw_m9 162 rfl) rfl
theorem q2193 : (Jvm.Cond.code ({ cls := "WingTramsModel", name := "vital", desc := "()I" } : Jvm.MethodName) prog_14_method_94_code (3 : Nat) (Option.some Jvm.ClassFile.FieldType.int)) ∈ lw_all := lw_g (lw_at lw_m9 163 rfl) rfl
theorem q2195 : (Jvm.Cond.instanceMethod ({ cls := "WingTramsModel", name := "reach", desc := "(II)I" } : Jvm.MethodName)) ∈ lw_all := lw_g (lw_at lw_m9 165 rfl) rfl
theorem q2196 : (Jvm.Cond.selects "WingTramsModel" ({ cls := "WingTramsModel", name := "reach", desc := "(II)I" } : Jvm.MethodName) ({ cls := "WingTramsModel", name := "reach", desc := "(II)I" } : Jvm.MethodName)) ∈ lw_all := lw_g (lw_at lw_m9 166 rfl) rfl
theorem q2197 : (Jvm.Cond.code ({ cls := "WingTramsModel", name := "reach", desc := "(II)I" } : Jvm.MethodName) prog_14_method_95_code (5 : Nat) (Option.some Jvm.ClassFile.FieldType.int)) ∈ lw_all := lw_g (lw_at lw_m9 167 rfl) rfl
theorem q2199 : (Jvm.Cond.instanceMethod ({ cls := "WingTramsModel", name := "late", desc := "(I)I" } : Jvm.MethodName)) ∈ lw_all := lw_g (lw_at lw_m9 169 rfl) rfl
theorem q2200 : (Jvm.Cond.selects "WingTramsModel" ({ cls := "WingTramsModel", name := "late", desc := "(I)I" } : Jvm.MethodName) ({ cls := "WingTramsModel", name := "late", desc := "(I)I" } : Jvm.MethodName)) ∈ lw_all := lw_g (lw_at lw_m9 170 rfl) rfl
theorem q2201 : (Jvm.Cond.code ({ cls := "WingTramsModel", name := "late", desc := "(I)I" } : Jvm.MethodName) prog_14_method_96_code (6 : Nat) (Option.some Jvm.ClassFile.FieldType.int)) ∈ lw_all := lw_g (lw_at lw_m9 171 rfl) rfl
theorem q2203 : (Jvm.Cond.instanceMethod ({ cls := "WingTramsModel", name := "best", desc := "()I" } : Jvm.MethodName)) ∈ lw_all := lw_g (lw_at lw_m9 173 rfl) rfl
theorem q2204 : (Jvm.Cond.selects "WingTramsModel" ({ cls := "WingTramsModel", name := "best", desc := "()I" } : Jvm.MethodName) ({ cls := "WingTramsModel", name := "best", desc := "()I" } : Jvm.MethodName)) ∈ lw_all := lw_g (lw_at lw_m9 174 rfl) rfl
theorem q2205 : (Jvm.Cond.code ({ cls := "WingTramsModel", name := "best", desc := "()I" } : Jvm.MethodName) prog_14_method_98_code (1 : Nat) (Option.some Jvm.ClassFile.FieldType.int)) ∈ lw_all := lw_g (lw_at lw_m9 175 rfl) rfl
theorem q2206 : (Jvm.Cond.methodLink "WingTramsModel" (445 : Nat) ({ cls := "WingTramsModel", name := "bestOf", desc := "(III)I" } : Jvm.MethodName)) ∈ lw_all := lw_g (lw_at lw_m9 176 rfl) rfl
theorem q2207 : (Jvm.Cond.privateMethod ({ cls := "WingTramsModel", name := "bestOf", desc := "(III)I" } : Jvm.MethodName)) ∈ lw_tbl := lw_at lw_m9 177 rfl
theorem q2208 : (Jvm.Cond.instanceMethod ({ cls := "WingTramsModel", name := "bestOf", desc := "(III)I" } : Jvm.MethodName)) ∈ lw_all := lw_g (lw_at lw_m9 178 rfl) rfl
theorem q2209 : (Jvm.Cond.code ({ cls := "WingTramsModel", name := "bestOf", desc := "(III)I" } : Jvm.MethodName) prog_14_method_97_code (9 : Nat) (Option.some Jvm.ClassFile.FieldType.int)) ∈ lw_all := lw_g (lw_at lw_m9 179 rfl) rfl
theorem q2211 : (Jvm.Cond.instanceMethod ({ cls := "WingTramsModel", name := "bright", desc := "()I" } : Jvm.MethodName)) ∈ lw_all := lw_g (lw_at lw_m9 181 rfl) rfl
theorem q2212 : (Jvm.Cond.selects "WingTramsModel" ({ cls := "WingTramsModel", name := "bright", desc := "()I" } : Jvm.MethodName) ({ cls := "WingTramsModel", name := "bright", desc := "()I" } : Jvm.MethodName)) ∈ lw_all := lw_g (lw_at lw_m9 182 rfl) rfl
theorem q2213 : (Jvm.Cond.code ({ cls := "WingTramsModel", name := "bright", desc := "()I" } : Jvm.MethodName) prog_14_method_99_code (1 : Nat) (Option.some Jvm.ClassFile.FieldType.int)) ∈ lw_all := lw_g (lw_at lw_m9 183 rfl) rfl
theorem q2215 : (Jvm.Cond.instanceMethod ({ cls := "WingTramsModel", name := "hunter", desc := "()I" } : Jvm.MethodName)) ∈ lw_all := lw_g (lw_at lw_m9 185 rfl) rfl
theorem q2216 : (Jvm.Cond.selects "WingTramsModel" ({ cls := "WingTramsModel", name := "hunter", desc := "()I" } : Jvm.MethodName) ({ cls := "WingTramsModel", name := "hunter", desc := "()I" } : Jvm.MethodName)) ∈ lw_all := lw_g (lw_at lw_m9 186 rfl) rfl
theorem q2217 : (Jvm.Cond.code ({ cls := "WingTramsModel", name := "hunter", desc := "()I" } : Jvm.MethodName) prog_14_method_100_code (3 : Nat) (Option.some Jvm.ClassFile.FieldType.int)) ∈ lw_all := lw_g (lw_at lw_m9 187 rfl) rfl
theorem q2219 : (Jvm.Cond.instanceMethod ({ cls := "WingTramsModel", name := "see", desc := "(III)I" } : Jvm.MethodName)) ∈ lw_all := lw_g (lw_at lw_m9 189 rfl) rfl
theorem q2220 : (Jvm.Cond.selects "WingTramsModel" ({ cls := "WingTramsModel", name := "see", desc := "(III)I" } : Jvm.MethodName) ({ cls := "WingTramsModel", name := "see", desc := "(III)I" } : Jvm.MethodName)) ∈ lw_all := lw_g (lw_at lw_m9 190 rfl) rfl
theorem q2221 : (Jvm.Cond.code ({ cls := "WingTramsModel", name := "see", desc := "(III)I" } : Jvm.MethodName) prog_14_method_101_code (4 : Nat) (Option.some Jvm.ClassFile.FieldType.int)) ∈ lw_all := lw_g (lw_at lw_m9 191 rfl) rfl
theorem q2223 : (Jvm.Cond.instanceMethod ({ cls := "WingTramsModel", name := "forget", desc := "()V" } : Jvm.MethodName)) ∈ lw_all := lw_g (lw_at lw_m9 193 rfl) rfl
theorem q2224 : (Jvm.Cond.selects "WingTramsModel" ({ cls := "WingTramsModel", name := "forget", desc := "()V" } : Jvm.MethodName) ({ cls := "WingTramsModel", name := "forget", desc := "()V" } : Jvm.MethodName)) ∈ lw_all := lw_g (lw_at lw_m9 194 rfl) rfl
theorem q2225 : (Jvm.Cond.code ({ cls := "WingTramsModel", name := "forget", desc := "()V" } : Jvm.MethodName) prog_14_method_102_code (1 : Nat) (Option.none : Option Jvm.ClassFile.FieldType)) ∈ lw_all := lw_g (lw_at lw_m9 195 rfl) rfl
theorem q2227 : (Jvm.Cond.instanceMethod ({ cls := "WingTramsModel", name := "fits", desc := "()I" } : Jvm.MethodName)) ∈ lw_all := lw_g (lw_at lw_m9 197 rfl) rfl
theorem q2228 : (Jvm.Cond.selects "WingTramsModel" ({ cls := "WingTramsModel", name := "fits", desc := "()I" } : Jvm.MethodName) ({ cls := "WingTramsModel", name := "fits", desc := "()I" } : Jvm.MethodName)) ∈ lw_all := lw_g (lw_at lw_m9 198 rfl) rfl
theorem q2229 : (Jvm.Cond.code ({ cls := "WingTramsModel", name := "fits", desc := "()I" } : Jvm.MethodName) prog_14_method_104_code (4 : Nat) (Option.some Jvm.ClassFile.FieldType.int)) ∈ lw_all := lw_g (lw_at lw_m9 199 rfl) rfl
theorem q2230 : (Jvm.Cond.methodLink "WingTramsModel" (448 : Nat) ({ cls := "WingTramsModel", name := "isSeen", desc := "(I)Z" } : Jvm.MethodName)) ∈ lw_all := lw_g (lw_at lw_m9 200 rfl) rfl
theorem q2231 : (Jvm.Cond.privateMethod ({ cls := "WingTramsModel", name := "isSeen", desc := "(I)Z" } : Jvm.MethodName)) ∈ lw_tbl := lw_at lw_m9 201 rfl
theorem q2232 : (Jvm.Cond.instanceMethod ({ cls := "WingTramsModel", name := "isSeen", desc := "(I)Z" } : Jvm.MethodName)) ∈ lw_all := lw_g (lw_at lw_m9 202 rfl) rfl
theorem q2233 : (Jvm.Cond.code ({ cls := "WingTramsModel", name := "isSeen", desc := "(I)Z" } : Jvm.MethodName) prog_14_method_103_code (3 : Nat) (Option.some Jvm.ClassFile.FieldType.boolean)) ∈ lw_all := lw_g (lw_at lw_m9 203 rfl) rfl
theorem q2235 : (Jvm.Cond.instanceMethod ({ cls := "WingTramsModel", name := "watch", desc := "(I)I" } : Jvm.MethodName)) ∈ lw_all := lw_g (lw_at lw_m9 205 rfl) rfl
theorem q2236 : (Jvm.Cond.selects "WingTramsModel" ({ cls := "WingTramsModel", name := "watch", desc := "(I)I" } : Jvm.MethodName) ({ cls := "WingTramsModel", name := "watch", desc := "(I)I" } : Jvm.MethodName)) ∈ lw_all := lw_g (lw_at lw_m9 206 rfl) rfl
theorem q2237 : (Jvm.Cond.code ({ cls := "WingTramsModel", name := "watch", desc := "(I)I" } : Jvm.MethodName) prog_14_method_105_code (8 : Nat) (Option.some Jvm.ClassFile.FieldType.int)) ∈ lw_all := lw_g (lw_at lw_m9 207 rfl) rfl
theorem q2238 : (Jvm.Cond.methodLink "WingTramsModel" (451 : Nat) ({ cls := "WingTramsModel", name := "off", desc := "(II)I" } : Jvm.MethodName)) ∈ lw_all := lw_g (lw_at lw_m9 208 rfl) rfl
theorem q2239 : (Jvm.Cond.static ({ cls := "WingTramsModel", name := "off", desc := "(II)I" } : Jvm.MethodName)) ∈ lw_all := lw_g (lw_at lw_m9 209 rfl) rfl
theorem q2240 : (Jvm.Cond.code ({ cls := "WingTramsModel", name := "off", desc := "(II)I" } : Jvm.MethodName) prog_14_method_5_code (2 : Nat) (Option.some Jvm.ClassFile.FieldType.int)) ∈ lw_all := lw_g (lw_at lw_m9 210 rfl) rfl
theorem q2242 : (Jvm.Cond.instanceMethod ({ cls := "WingTramsModel", name := "bats", desc := "(I)I" } : Jvm.MethodName)) ∈ lw_all := lw_g (lw_at lw_m9 212 rfl) rfl
theorem q2243 : (Jvm.Cond.selects "WingTramsModel" ({ cls := "WingTramsModel", name := "bats", desc := "(I)I" } : Jvm.MethodName) ({ cls := "WingTramsModel", name := "bats", desc := "(I)I" } : Jvm.MethodName)) ∈ lw_all := lw_g (lw_at lw_m9 213 rfl) rfl
theorem q2244 : (Jvm.Cond.code ({ cls := "WingTramsModel", name := "bats", desc := "(I)I" } : Jvm.MethodName) prog_14_method_108_code (8 : Nat) (Option.some Jvm.ClassFile.FieldType.int)) ∈ lw_all := lw_g (lw_at lw_m9 214 rfl) rfl
theorem q2245 : (Jvm.Cond.methodLink "WingTramsModel" (457 : Nat) ({ cls := "WingTramsModel", name := "gains", desc := "(IIZ)I" } : Jvm.MethodName)) ∈ lw_all := lw_g (lw_at lw_m9 215 rfl) rfl
theorem q2246 : (Jvm.Cond.privateMethod ({ cls := "WingTramsModel", name := "gains", desc := "(IIZ)I" } : Jvm.MethodName)) ∈ lw_tbl := lw_at lw_m9 216 rfl
theorem q2247 : (Jvm.Cond.instanceMethod ({ cls := "WingTramsModel", name := "gains", desc := "(IIZ)I" } : Jvm.MethodName)) ∈ lw_all := lw_g (lw_at lw_m9 217 rfl) rfl
theorem q2248 : (Jvm.Cond.code ({ cls := "WingTramsModel", name := "gains", desc := "(IIZ)I" } : Jvm.MethodName) prog_14_method_107_code (5 : Nat) (Option.some Jvm.ClassFile.FieldType.int)) ∈ lw_all := lw_g (lw_at lw_m9 218 rfl) rfl
theorem q2249 : (Jvm.Cond.methodLink "WingTramsModel" (454 : Nat) ({ cls := "WingTramsModel", name := "takers", desc := "(I)I" } : Jvm.MethodName)) ∈ lw_all := lw_g (lw_at lw_m9 219 rfl) rfl
theorem q2250 : (Jvm.Cond.privateMethod ({ cls := "WingTramsModel", name := "takers", desc := "(I)I" } : Jvm.MethodName)) ∈ lw_tbl := lw_at lw_m9 220 rfl
theorem q2251 : (Jvm.Cond.instanceMethod ({ cls := "WingTramsModel", name := "takers", desc := "(I)I" } : Jvm.MethodName)) ∈ lw_all := lw_g (lw_at lw_m9 221 rfl) rfl
theorem q2252 : (Jvm.Cond.code ({ cls := "WingTramsModel", name := "takers", desc := "(I)I" } : Jvm.MethodName) prog_14_method_106_code (4 : Nat) (Option.some Jvm.ClassFile.FieldType.int)) ∈ lw_all := lw_g (lw_at lw_m9 222 rfl) rfl
theorem q2254 : (Jvm.Cond.instanceMethod ({ cls := "WingTramsModel", name := "years", desc := "(III)I" } : Jvm.MethodName)) ∈ lw_all := lw_g (lw_at lw_m9 224 rfl) rfl
theorem q2255 : (Jvm.Cond.selects "WingTramsModel" ({ cls := "WingTramsModel", name := "years", desc := "(III)I" } : Jvm.MethodName) ({ cls := "WingTramsModel", name := "years", desc := "(III)I" } : Jvm.MethodName)) ∈ lw_all := lw_g (lw_at lw_m9 225 rfl) rfl
theorem q2256 : (Jvm.Cond.code ({ cls := "WingTramsModel", name := "years", desc := "(III)I" } : Jvm.MethodName) prog_14_method_109_code (10 : Nat) (Option.some Jvm.ClassFile.FieldType.int)) ∈ lw_all := lw_g (lw_at lw_m9 226 rfl) rfl
theorem q2257 : (Jvm.Cond.constant "WingTramsModel" (461 : Nat) (1103515245 : Int32)) ∈ lw_all := lw_g (lw_at lw_m9 227 rfl) rfl
theorem q2259 : (Jvm.Cond.instanceMethod ({ cls := "WingTramsModel", name := "image", desc := "()V" } : Jvm.MethodName)) ∈ lw_all := lw_g (lw_at lw_m9 229 rfl) rfl
theorem q2260 : (Jvm.Cond.selects "WingTramsModel" ({ cls := "WingTramsModel", name := "image", desc := "()V" } : Jvm.MethodName) ({ cls := "WingTramsModel", name := "image", desc := "()V" } : Jvm.MethodName)) ∈ lw_all := lw_g (lw_at lw_m9 230 rfl) rfl
theorem q2261 : (Jvm.Cond.code ({ cls := "WingTramsModel", name := "image", desc := "()V" } : Jvm.MethodName) prog_14_method_110_code (1 : Nat) (Option.none : Option Jvm.ClassFile.FieldType)) ∈ lw_all := lw_g (lw_at lw_m9 231 rfl) rfl
theorem q2263 : (Jvm.Cond.instanceMethod ({ cls := "WingTramsModel", name := "restore", desc := "()Z" } : Jvm.MethodName)) ∈ lw_all := lw_g (lw_at lw_m9 233 rfl) rfl
theorem q2264 : (Jvm.Cond.selects "WingTramsModel" ({ cls := "WingTramsModel", name := "restore", desc := "()Z" } : Jvm.MethodName) ({ cls := "WingTramsModel", name := "restore", desc := "()Z" } : Jvm.MethodName)) ∈ lw_all := lw_g (lw_at lw_m9 234 rfl) rfl
theorem q2265 : (Jvm.Cond.code ({ cls := "WingTramsModel", name := "restore", desc := "()Z" } : Jvm.MethodName) prog_14_method_111_code (1 : Nat) (Option.some Jvm.ClassFile.FieldType.boolean)) ∈ lw_all := lw_g (lw_at lw_m9 235 rfl) rfl
theorem q2277 : (Jvm.Cond.castable "WingTramsModel" "java/lang/Object") ∈ lw_tbl := lw_at lw_m10 7 rfl
theorem in_X3 : ∀ w ∈ wsX30, w ∈ lw_all := lw_in wsX30 [1680, 1682, 1684, 1686, 1688, 1690, 1692, 1694, 1696, 1698, 1700, 1702, 1704, 1706, 1708, 1710, 1712, 1714, 1716, 1718, 1720, 1722, 1724, 1726, 1728, 1730, 1732, 1734, 1736, 1738, 1740, 1742, 1744, 1746, 1748, 1750, 1752, 1754, 1756, 1758, 1760, 1762, 1764, 1766, 1768, 1770, 1772, 1774, 1776, 1778, 1780, 1782, 1784, 1786, 1788, 1790, 1792, 1794, 1796, 1798, 1800, 1802, 1804, 1806, 1808, 1810, 1812, 1814, 1816, 1818, 1820, 1822, 1824, 1826, 1828, 1830] (by decide +kernel) (by decide +kernel)
