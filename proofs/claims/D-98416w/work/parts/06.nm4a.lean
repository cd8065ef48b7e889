/-! SealCastsModel -/
set_option maxRecDepth 100000
def RX4 : String := "SealCastsModel"
def TX4 : u_T := fun k => match k with
  | 0 => ("SealCastsModel", "tape", "[B", true)
  | 1 => ("SealCastsModel", "text", "[B", true)
  | 2 => ("SealCastsModel", "taped", "I", false)
  | 3 => ("SealCastsModel", "size", "I", false)
  | 4 => ("SealCastsModel", "faultKind", "I", false)
  | 5 => ("SealCastsModel", "faultPlace", "I", false)
  | 6 => ("SealCastsModel", "at", "I", false)
  | 7 => ("SealCastsModel", "end", "I", false)
  | 8 => ("SealCastsModel", "token", "I", false)
  | 9 => ("SealCastsModel", "number", "I", false)
  | 10 => ("SealCastsModel", "name", "J", false)
  | 11 => ("SealCastsModel", "wide", "[I", true)
  | 12 => ("SealCastsModel", "firstRow", "[I", true)
  | 13 => ("SealCastsModel", "hands", "[I", true)
  | 14 => ("SealCastsModel", "units", "[I", true)
  | 15 => ("SealCastsModel", "waxTold", "[I", true)
  | 16 => ("SealCastsModel", "draw", "[I", true)
  | 17 => ("SealCastsModel", "lines", "[I", true)
  | 18 => ("SealCastsModel", "ruleFrom", "[I", true)
  | 19 => ("SealCastsModel", "ruleTo", "[I", true)
  | 20 => ("SealCastsModel", "hasFirst", "[Z", true)
  | 21 => ("SealCastsModel", "hasWax", "[Z", true)
  | 22 => ("SealCastsModel", "hasDraw", "[Z", true)
  | 23 => ("SealCastsModel", "hName", "[J", true)
  | 24 => ("SealCastsModel", "code", "[I", true)
  | 25 => ("SealCastsModel", "codeNumber", "[I", true)
  | 26 => ("SealCastsModel", "eWhat", "[I", true)
  | 27 => ("SealCastsModel", "eSign", "[I", true)
  | 28 => ("SealCastsModel", "pile", "[I", true)
  | 29 => ("SealCastsModel", "bank", "I", false)
  | 30 => ("SealCastsModel", "rb", "I", false)
  | 31 => ("SealCastsModel", "codes", "I", false)
  | 32 => ("SealCastsModel", "within", "I", false)
  | 33 => ("SealCastsModel", "piled", "I", false)
  | 34 => ("SealCastsModel", "unitsInRule", "I", false)
  | 35 => ("SealCastsModel", "askRow", "I", false)
  | 36 => ("SealCastsModel", "askMark", "I", false)
  | 37 => ("SealCastsModel", "askMany", "I", false)
  | 38 => ("SealCastsModel", "askHeat", "I", false)
  | 39 => ("SealCastsModel", "askDraw", "I", false)
  | 40 => ("SealCastsModel", "all", "[I", true)
  | 41 => ("SealCastsModel", "was", "[I", true)
  | 42 => ("SealCastsModel", "acts", "I", false)
  | 43 => ("SealCastsModel", "undone", "I", false)
  | 44 => ("SealCastsModel", "drawn", "[I", true)
  | 45 => ("SealCastsModel", "shareOf", "[I", true)
  | 46 => ("SealCastsModel", "restOf", "[I", true)
  | 47 => ("SealCastsModel", "laidRow", "[I", true)
  | 48 => ("SealCastsModel", "laid", "I", false)
  | 49 => ("SealCastsModel", "metAt", "[I", true)
  | 50 => ("SealCastsModel", "still", "[I", true)
  | 51 => ("SealCastsModel", "next", "[I", true)
  | 52 => ("SealCastsModel", "fSort", "[I", true)
  | 53 => ("SealCastsModel", "fOne", "[I", true)
  | 54 => ("SealCastsModel", "fTwo", "[I", true)
  | 55 => ("SealCastsModel", "fThree", "[I", true)
  | 56 => ("SealCastsModel", "fTold", "[I", true)
  | 57 => ("SealCastsModel", "fUntold", "[I", true)
  | 58 => ("SealCastsModel", "facts", "I", false)
  | 59 => ("SealCastsModel", "time", "I", false)
  | 60 => ("SealCastsModel", "treeRow", "[I", true)
  | 61 => ("SealCastsModel", "from", "[I", true)
  | 62 => ("SealCastsModel", "change", "[I", true)
  | 63 => ("SealCastsModel", "treeMany", "I", false)
  | 64 => ("SealCastsModel", "clanOf", "[I", true)
  | 65 => ("SealCastsModel", "side", "[I", true)
  | 66 => ("SealCastsModel", "group", "[I", true)
  | 67 => ("SealCastsModel", "boxAll", "[I", true)
  | _ => ("SealCastsModel", "isBoxed", "[Z", true)
def tyX4 : Nat → FieldType := fun k => match k with
  | 0 => .array .byte
  | 1 => .array .byte
  | 2 => .int
  | 3 => .int
  | 4 => .int
  | 5 => .int
  | 6 => .int
  | 7 => .int
  | 8 => .int
  | 9 => .int
  | 10 => .long
  | 11 => .array .int
  | 12 => .array .int
  | 13 => .array .int
  | 14 => .array .int
  | 15 => .array .int
  | 16 => .array .int
  | 17 => .array .int
  | 18 => .array .int
  | 19 => .array .int
  | 20 => .array .boolean
  | 21 => .array .boolean
  | 22 => .array .boolean
  | 23 => .array .long
  | 24 => .array .int
  | 25 => .array .int
  | 26 => .array .int
  | 27 => .array .int
  | 28 => .array .int
  | 29 => .int
  | 30 => .int
  | 31 => .int
  | 32 => .int
  | 33 => .int
  | 34 => .int
  | 35 => .int
  | 36 => .int
  | 37 => .int
  | 38 => .int
  | 39 => .int
  | 40 => .array .int
  | 41 => .array .int
  | 42 => .int
  | 43 => .int
  | 44 => .array .int
  | 45 => .array .int
  | 46 => .array .int
  | 47 => .array .int
  | 48 => .int
  | 49 => .array .int
  | 50 => .array .int
  | 51 => .array .int
  | 52 => .array .int
  | 53 => .array .int
  | 54 => .array .int
  | 55 => .array .int
  | 56 => .array .int
  | 57 => .array .int
  | 58 => .int
  | 59 => .int
  | 60 => .array .int
  | 61 => .array .int
  | 62 => .array .int
  | 63 => .int
  | 64 => .array .int
  | 65 => .array .int
  | 66 => .array .int
  | 67 => .array .int
  | _ => .array .boolean
abbrev wsX40 : List Cond := u_ws RX4 TX4 69
set_option maxRecDepth 100000 in
theorem nmX4 : ∀ a, a < 69 → ∀ b, b < 69 → a ≠ b → (TX4 a).2.1 ≠ (TX4 b).2.1 := by decide +kernel
set_option maxRecDepth 100000 in
theorem tyX4_ok : ∀ k, k < 69 → parseFieldDescriptor (TX4 k).2.2.1 = some (tyX4 k) := by decide +kernel
abbrev cX4_init : ByteArray := prog_27_method_1_code
def yX4_init : MethodName := ⟨RX4, "<init>", "()V"⟩
def dkwX4_init_15 : List UInt8 := [182, 0, 147, 42, 182, 0, 150, 177]
abbrev dktX4_init_15 : List UInt8 := dkwX4_init_15 ++ []
def dkwX4_init_14 : List UInt8 := [188, 10, 181, 0, 138, 42, 17, 2, 151, 188, 10, 181, 0, 141, 42, 6, 188, 4, 181, 0, 144, 42]
abbrev dktX4_init_14 : List UInt8 := dkwX4_init_14 ++ dktX4_init_15
def dkwX4_init_13 : List UInt8 := [188, 10, 181, 0, 129, 42, 16, 7, 188, 10, 181, 0, 132, 42, 16, 8, 188, 10, 181, 0, 135, 42, 16, 8]
abbrev dktX4_init_13 : List UInt8 := dkwX4_init_13 ++ dktX4_init_14
def dkwX4_init_12 : List UInt8 := [188, 10, 181, 0, 120, 42, 16, 7, 188, 10, 181, 0, 123, 42, 16, 7, 188, 10, 181, 0, 126, 42, 16, 49]
abbrev dktX4_init_12 : List UInt8 := dkwX4_init_12 ++ dktX4_init_13
def dkwX4_init_11 : List UInt8 := [188, 10, 181, 0, 111, 42, 16, 40, 188, 10, 181, 0, 114, 42, 16, 40, 188, 10, 181, 0, 117, 42, 16, 40]
abbrev dktX4_init_11 : List UInt8 := dkwX4_init_11 ++ dktX4_init_12
def dkwX4_init_10 : List UInt8 := [188, 10, 181, 0, 102, 42, 16, 40, 188, 10, 181, 0, 105, 42, 16, 40, 188, 10, 181, 0, 108, 42, 16, 40]
abbrev dktX4_init_10 : List UInt8 := dkwX4_init_10 ++ dktX4_init_11
def dkwX4_init_9 : List UInt8 := [181, 0, 92, 42, 17, 16, 0, 188, 10, 181, 0, 95, 42, 17, 80, 0, 188, 10, 181, 0, 98, 42, 18, 101]
abbrev dktX4_init_9 : List UInt8 := dkwX4_init_9 ++ dktX4_init_10
def dkwX4_init_8 : List UInt8 := [181, 0, 83, 42, 7, 188, 10, 181, 0, 86, 42, 7, 188, 10, 181, 0, 89, 42, 16, 12, 188, 10]
abbrev dktX4_init_8 : List UInt8 := dkwX4_init_8 ++ dktX4_init_9
def dkwX4_init_7 : List UInt8 := [17, 0, 221, 188, 10, 181, 0, 77, 42, 17, 35, 101, 188, 10, 181, 0, 80, 42, 16, 100, 188, 10]
abbrev dktX4_init_7 : List UInt8 := dkwX4_init_7 ++ dktX4_init_8
def dkwX4_init_6 : List UInt8 := [188, 10, 181, 0, 68, 42, 16, 90, 188, 10, 181, 0, 71, 42, 16, 60, 188, 10, 181, 0, 74, 42]
abbrev dktX4_init_6 : List UInt8 := dkwX4_init_6 ++ dktX4_init_7
def dkwX4_init_5 : List UInt8 := [181, 0, 58, 42, 17, 4, 96, 188, 10, 181, 0, 62, 42, 17, 4, 96, 188, 10, 181, 0, 65, 42, 16, 90]
abbrev dktX4_init_5 : List UInt8 := dkwX4_init_5 ++ dktX4_init_6
def dkwX4_init_4 : List UInt8 := [188, 4, 181, 0, 48, 42, 5, 188, 4, 181, 0, 52, 42, 5, 188, 4, 181, 0, 55, 42, 16, 8, 188, 11]
abbrev dktX4_init_4 : List UInt8 := dkwX4_init_4 ++ dktX4_init_5
def dkwX4_init_3 : List UInt8 := [188, 10, 181, 0, 39, 42, 16, 16, 188, 10, 181, 0, 42, 42, 16, 16, 188, 10, 181, 0, 45, 42, 5]
abbrev dktX4_init_3 : List UInt8 := dkwX4_init_3 ++ dktX4_init_4
def dkwX4_init_2 : List UInt8 := [42, 5, 188, 10, 181, 0, 30, 42, 5, 188, 10, 181, 0, 33, 42, 5, 188, 10, 181, 0, 36, 42, 5]
abbrev dktX4_init_2 : List UInt8 := dkwX4_init_2 ++ dktX4_init_3
def dkwX4_init_1 : List UInt8 := [181, 0, 16, 42, 5, 188, 10, 181, 0, 20, 42, 5, 188, 10, 181, 0, 24, 42, 5, 188, 10, 181, 0, 27]
abbrev dktX4_init_1 : List UInt8 := dkwX4_init_1 ++ dktX4_init_2
def dkwX4_init_0 : List UInt8 := [42, 183, 0, 1, 42, 17, 6, 84, 188, 8, 181, 0, 7, 42, 17, 6, 64, 188, 8, 181, 0, 13, 42, 2]
abbrev dktX4_init_0 : List UInt8 := dkwX4_init_0 ++ dktX4_init_1
theorem dksX4_init_0 : cX4_init.data.toList.drop 0 = dktX4_init_0 := by decide +kernel
theorem dksX4_init_1 : cX4_init.data.toList.drop 24 = dktX4_init_1 := dk_seg dksX4_init_0 24 rfl rfl
theorem dksX4_init_2 : cX4_init.data.toList.drop 48 = dktX4_init_2 := dk_seg dksX4_init_1 24 rfl rfl
theorem dksX4_init_3 : cX4_init.data.toList.drop 71 = dktX4_init_3 := dk_seg dksX4_init_2 23 rfl rfl
theorem dksX4_init_4 : cX4_init.data.toList.drop 94 = dktX4_init_4 := dk_seg dksX4_init_3 23 rfl rfl
theorem dksX4_init_5 : cX4_init.data.toList.drop 118 = dktX4_init_5 := dk_seg dksX4_init_4 24 rfl rfl
theorem dksX4_init_6 : cX4_init.data.toList.drop 142 = dktX4_init_6 := dk_seg dksX4_init_5 24 rfl rfl
theorem dksX4_init_7 : cX4_init.data.toList.drop 164 = dktX4_init_7 := dk_seg dksX4_init_6 22 rfl rfl
theorem dksX4_init_8 : cX4_init.data.toList.drop 186 = dktX4_init_8 := dk_seg dksX4_init_7 22 rfl rfl
theorem dksX4_init_9 : cX4_init.data.toList.drop 208 = dktX4_init_9 := dk_seg dksX4_init_8 22 rfl rfl
theorem dksX4_init_10 : cX4_init.data.toList.drop 232 = dktX4_init_10 := dk_seg dksX4_init_9 24 rfl rfl
theorem dksX4_init_11 : cX4_init.data.toList.drop 256 = dktX4_init_11 := dk_seg dksX4_init_10 24 rfl rfl
theorem dksX4_init_12 : cX4_init.data.toList.drop 280 = dktX4_init_12 := dk_seg dksX4_init_11 24 rfl rfl
theorem dksX4_init_13 : cX4_init.data.toList.drop 304 = dktX4_init_13 := dk_seg dksX4_init_12 24 rfl rfl
theorem dksX4_init_14 : cX4_init.data.toList.drop 328 = dktX4_init_14 := dk_seg dksX4_init_13 24 rfl rfl
theorem dksX4_init_15 : cX4_init.data.toList.drop 350 = dktX4_init_15 := dk_seg dksX4_init_14 22 rfl rfl
theorem dX4_init_0 : decode cX4_init 0 = .ok (.aload_n 0, 1) := dk_42 (dk_at dksX4_init_0 0 rfl rfl)
theorem dX4_init_1 : decode cX4_init 1 = .ok (.invokespecial 1, 3) := dk_183 0 1 (dk_at dksX4_init_0 1 rfl rfl)
theorem dX4_init_4 : decode cX4_init 4 = .ok (.aload_n 0, 1) := dk_42 (dk_at dksX4_init_0 4 rfl rfl)
theorem dX4_init_5 : decode cX4_init 5 = .ok (.sipush 1620, 3) := dk_17 6 84 (dk_at dksX4_init_0 5 rfl rfl)
theorem dX4_init_8 : decode cX4_init 8 = .ok (.newarray .byte, 2) := dk_188_8 (dk_at dksX4_init_0 8 rfl rfl)
theorem dX4_init_10 : decode cX4_init 10 = .ok (.putfield 7, 3) := dk_181 0 7 (dk_at dksX4_init_0 10 rfl rfl)
theorem dX4_init_13 : decode cX4_init 13 = .ok (.aload_n 0, 1) := dk_42 (dk_at dksX4_init_0 13 rfl rfl)
theorem dX4_init_14 : decode cX4_init 14 = .ok (.sipush 1600, 3) := dk_17 6 64 (dk_at dksX4_init_0 14 rfl rfl)
theorem dX4_init_17 : decode cX4_init 17 = .ok (.newarray .byte, 2) := dk_188_8 (dk_at dksX4_init_0 17 rfl rfl)
theorem dX4_init_19 : decode cX4_init 19 = .ok (.putfield 13, 3) := dk_181 0 13 (dk_at dksX4_init_0 19 rfl rfl)
theorem dX4_init_22 : decode cX4_init 22 = .ok (.aload_n 0, 1) := dk_42 (dk_at dksX4_init_0 22 rfl rfl)
theorem dX4_init_23 : decode cX4_init 23 = .ok (.iconst (-1), 1) := dk_2 (dk_at dksX4_init_0 23 rfl rfl)
theorem dX4_init_24 : decode cX4_init 24 = .ok (.putfield 16, 3) := dk_181 0 16 (dk_at dksX4_init_1 0 rfl rfl)
theorem dX4_init_27 : decode cX4_init 27 = .ok (.aload_n 0, 1) := dk_42 (dk_at dksX4_init_1 3 rfl rfl)
theorem dX4_init_28 : decode cX4_init 28 = .ok (.iconst 2, 1) := dk_5 (dk_at dksX4_init_1 4 rfl rfl)
theorem dX4_init_29 : decode cX4_init 29 = .ok (.newarray .int, 2) := dk_188_10 (dk_at dksX4_init_1 5 rfl rfl)
theorem dX4_init_31 : decode cX4_init 31 = .ok (.putfield 20, 3) := dk_181 0 20 (dk_at dksX4_init_1 7 rfl rfl)
theorem dX4_init_34 : decode cX4_init 34 = .ok (.aload_n 0, 1) := dk_42 (dk_at dksX4_init_1 10 rfl rfl)
theorem dX4_init_35 : decode cX4_init 35 = .ok (.iconst 2, 1) := dk_5 (dk_at dksX4_init_1 11 rfl rfl)
theorem dX4_init_36 : decode cX4_init 36 = .ok (.newarray .int, 2) := dk_188_10 (dk_at dksX4_init_1 12 rfl rfl)
theorem dX4_init_38 : decode cX4_init 38 = .ok (.putfield 24, 3) := dk_181 0 24 (dk_at dksX4_init_1 14 rfl rfl)
theorem dX4_init_41 : decode cX4_init 41 = .ok (.aload_n 0, 1) := dk_42 (dk_at dksX4_init_1 17 rfl rfl)
theorem dX4_init_42 : decode cX4_init 42 = .ok (.iconst 2, 1) := dk_5 (dk_at dksX4_init_1 18 rfl rfl)
theorem dX4_init_43 : decode cX4_init 43 = .ok (.newarray .int, 2) := dk_188_10 (dk_at dksX4_init_1 19 rfl rfl)
theorem dX4_init_45 : decode cX4_init 45 = .ok (.putfield 27, 3) := dk_181 0 27 (dk_at dksX4_init_1 21 rfl rfl)
theorem dX4_init_48 : decode cX4_init 48 = .ok (.aload_n 0, 1) := dk_42 (dk_at dksX4_init_2 0 rfl rfl)
theorem dX4_init_49 : decode cX4_init 49 = .ok (.iconst 2, 1) := dk_5 (dk_at dksX4_init_2 1 rfl rfl)
theorem dX4_init_50 : decode cX4_init 50 = .ok (.newarray .int, 2) := dk_188_10 (dk_at dksX4_init_2 2 rfl rfl)
theorem dX4_init_52 : decode cX4_init 52 = .ok (.putfield 30, 3) := dk_181 0 30 (dk_at dksX4_init_2 4 rfl rfl)
theorem dX4_init_55 : decode cX4_init 55 = .ok (.aload_n 0, 1) := dk_42 (dk_at dksX4_init_2 7 rfl rfl)
theorem dX4_init_56 : decode cX4_init 56 = .ok (.iconst 2, 1) := dk_5 (dk_at dksX4_init_2 8 rfl rfl)
theorem dX4_init_57 : decode cX4_init 57 = .ok (.newarray .int, 2) := dk_188_10 (dk_at dksX4_init_2 9 rfl rfl)
theorem dX4_init_59 : decode cX4_init 59 = .ok (.putfield 33, 3) := dk_181 0 33 (dk_at dksX4_init_2 11 rfl rfl)
theorem dX4_init_62 : decode cX4_init 62 = .ok (.aload_n 0, 1) := dk_42 (dk_at dksX4_init_2 14 rfl rfl)
theorem dX4_init_63 : decode cX4_init 63 = .ok (.iconst 2, 1) := dk_5 (dk_at dksX4_init_2 15 rfl rfl)
theorem dX4_init_64 : decode cX4_init 64 = .ok (.newarray .int, 2) := dk_188_10 (dk_at dksX4_init_2 16 rfl rfl)
theorem dX4_init_66 : decode cX4_init 66 = .ok (.putfield 36, 3) := dk_181 0 36 (dk_at dksX4_init_2 18 rfl rfl)
theorem dX4_init_69 : decode cX4_init 69 = .ok (.aload_n 0, 1) := dk_42 (dk_at dksX4_init_2 21 rfl rfl)
theorem dX4_init_70 : decode cX4_init 70 = .ok (.iconst 2, 1) := dk_5 (dk_at dksX4_init_2 22 rfl rfl)
theorem dX4_init_71 : decode cX4_init 71 = .ok (.newarray .int, 2) := dk_188_10 (dk_at dksX4_init_3 0 rfl rfl)
theorem dX4_init_73 : decode cX4_init 73 = .ok (.putfield 39, 3) := dk_181 0 39 (dk_at dksX4_init_3 2 rfl rfl)
theorem dX4_init_76 : decode cX4_init 76 = .ok (.aload_n 0, 1) := dk_42 (dk_at dksX4_init_3 5 rfl rfl)
theorem dX4_init_77 : decode cX4_init 77 = .ok (.bipush 16, 2) := dk_16 16 (dk_at dksX4_init_3 6 rfl rfl)
theorem dX4_init_79 : decode cX4_init 79 = .ok (.newarray .int, 2) := dk_188_10 (dk_at dksX4_init_3 8 rfl rfl)
theorem dX4_init_81 : decode cX4_init 81 = .ok (.putfield 42, 3) := dk_181 0 42 (dk_at dksX4_init_3 10 rfl rfl)
theorem dX4_init_84 : decode cX4_init 84 = .ok (.aload_n 0, 1) := dk_42 (dk_at dksX4_init_3 13 rfl rfl)
theorem dX4_init_85 : decode cX4_init 85 = .ok (.bipush 16, 2) := dk_16 16 (dk_at dksX4_init_3 14 rfl rfl)
theorem dX4_init_87 : decode cX4_init 87 = .ok (.newarray .int, 2) := dk_188_10 (dk_at dksX4_init_3 16 rfl rfl)
theorem dX4_init_89 : decode cX4_init 89 = .ok (.putfield 45, 3) := dk_181 0 45 (dk_at dksX4_init_3 18 rfl rfl)
theorem dX4_init_92 : decode cX4_init 92 = .ok (.aload_n 0, 1) := dk_42 (dk_at dksX4_init_3 21 rfl rfl)
theorem dX4_init_93 : decode cX4_init 93 = .ok (.iconst 2, 1) := dk_5 (dk_at dksX4_init_3 22 rfl rfl)
theorem dX4_init_94 : decode cX4_init 94 = .ok (.newarray .boolean, 2) := dk_188_4 (dk_at dksX4_init_4 0 rfl rfl)
theorem dX4_init_96 : decode cX4_init 96 = .ok (.putfield 48, 3) := dk_181 0 48 (dk_at dksX4_init_4 2 rfl rfl)
theorem dX4_init_99 : decode cX4_init 99 = .ok (.aload_n 0, 1) := dk_42 (dk_at dksX4_init_4 5 rfl rfl)
theorem dX4_init_100 : decode cX4_init 100 = .ok (.iconst 2, 1) := dk_5 (dk_at dksX4_init_4 6 rfl rfl)
theorem dX4_init_101 : decode cX4_init 101 = .ok (.newarray .boolean, 2) := dk_188_4 (dk_at dksX4_init_4 7 rfl rfl)
theorem dX4_init_103 : decode cX4_init 103 = .ok (.putfield 52, 3) := dk_181 0 52 (dk_at dksX4_init_4 9 rfl rfl)
theorem dX4_init_106 : decode cX4_init 106 = .ok (.aload_n 0, 1) := dk_42 (dk_at dksX4_init_4 12 rfl rfl)
theorem dX4_init_107 : decode cX4_init 107 = .ok (.iconst 2, 1) := dk_5 (dk_at dksX4_init_4 13 rfl rfl)
theorem dX4_init_108 : decode cX4_init 108 = .ok (.newarray .boolean, 2) := dk_188_4 (dk_at dksX4_init_4 14 rfl rfl)
theorem dX4_init_110 : decode cX4_init 110 = .ok (.putfield 55, 3) := dk_181 0 55 (dk_at dksX4_init_4 16 rfl rfl)
theorem dX4_init_113 : decode cX4_init 113 = .ok (.aload_n 0, 1) := dk_42 (dk_at dksX4_init_4 19 rfl rfl)
theorem dX4_init_114 : decode cX4_init 114 = .ok (.bipush 8, 2) := dk_16 8 (dk_at dksX4_init_4 20 rfl rfl)
theorem dX4_init_116 : decode cX4_init 116 = .ok (.newarray .long, 2) := dk_188_11 (dk_at dksX4_init_4 22 rfl rfl)
theorem dX4_init_118 : decode cX4_init 118 = .ok (.putfield 58, 3) := dk_181 0 58 (dk_at dksX4_init_5 0 rfl rfl)
theorem dX4_init_121 : decode cX4_init 121 = .ok (.aload_n 0, 1) := dk_42 (dk_at dksX4_init_5 3 rfl rfl)
theorem dX4_init_122 : decode cX4_init 122 = .ok (.sipush 1120, 3) := dk_17 4 96 (dk_at dksX4_init_5 4 rfl rfl)
theorem dX4_init_125 : decode cX4_init 125 = .ok (.newarray .int, 2) := dk_188_10 (dk_at dksX4_init_5 7 rfl rfl)
theorem dX4_init_127 : decode cX4_init 127 = .ok (.putfield 62, 3) := dk_181 0 62 (dk_at dksX4_init_5 9 rfl rfl)
theorem dX4_init_130 : decode cX4_init 130 = .ok (.aload_n 0, 1) := dk_42 (dk_at dksX4_init_5 12 rfl rfl)
theorem dX4_init_131 : decode cX4_init 131 = .ok (.sipush 1120, 3) := dk_17 4 96 (dk_at dksX4_init_5 13 rfl rfl)
theorem dX4_init_134 : decode cX4_init 134 = .ok (.newarray .int, 2) := dk_188_10 (dk_at dksX4_init_5 16 rfl rfl)
theorem dX4_init_136 : decode cX4_init 136 = .ok (.putfield 65, 3) := dk_181 0 65 (dk_at dksX4_init_5 18 rfl rfl)
theorem dX4_init_139 : decode cX4_init 139 = .ok (.aload_n 0, 1) := dk_42 (dk_at dksX4_init_5 21 rfl rfl)
theorem dX4_init_140 : decode cX4_init 140 = .ok (.bipush 90, 2) := dk_16 90 (dk_at dksX4_init_5 22 rfl rfl)
theorem dX4_init_142 : decode cX4_init 142 = .ok (.newarray .int, 2) := dk_188_10 (dk_at dksX4_init_6 0 rfl rfl)
theorem dX4_init_144 : decode cX4_init 144 = .ok (.putfield 68, 3) := dk_181 0 68 (dk_at dksX4_init_6 2 rfl rfl)
theorem dX4_init_147 : decode cX4_init 147 = .ok (.aload_n 0, 1) := dk_42 (dk_at dksX4_init_6 5 rfl rfl)
theorem dX4_init_148 : decode cX4_init 148 = .ok (.bipush 90, 2) := dk_16 90 (dk_at dksX4_init_6 6 rfl rfl)
theorem dX4_init_150 : decode cX4_init 150 = .ok (.newarray .int, 2) := dk_188_10 (dk_at dksX4_init_6 8 rfl rfl)
theorem dX4_init_152 : decode cX4_init 152 = .ok (.putfield 71, 3) := dk_181 0 71 (dk_at dksX4_init_6 10 rfl rfl)
theorem dX4_init_155 : decode cX4_init 155 = .ok (.aload_n 0, 1) := dk_42 (dk_at dksX4_init_6 13 rfl rfl)
theorem dX4_init_156 : decode cX4_init 156 = .ok (.bipush 60, 2) := dk_16 60 (dk_at dksX4_init_6 14 rfl rfl)
theorem dX4_init_158 : decode cX4_init 158 = .ok (.newarray .int, 2) := dk_188_10 (dk_at dksX4_init_6 16 rfl rfl)
theorem dX4_init_160 : decode cX4_init 160 = .ok (.putfield 74, 3) := dk_181 0 74 (dk_at dksX4_init_6 18 rfl rfl)
theorem dX4_init_163 : decode cX4_init 163 = .ok (.aload_n 0, 1) := dk_42 (dk_at dksX4_init_6 21 rfl rfl)
theorem dX4_init_164 : decode cX4_init 164 = .ok (.sipush 221, 3) := dk_17 0 221 (dk_at dksX4_init_7 0 rfl rfl)
theorem dX4_init_167 : decode cX4_init 167 = .ok (.newarray .int, 2) := dk_188_10 (dk_at dksX4_init_7 3 rfl rfl)
theorem dX4_init_169 : decode cX4_init 169 = .ok (.putfield 77, 3) := dk_181 0 77 (dk_at dksX4_init_7 5 rfl rfl)
theorem dX4_init_172 : decode cX4_init 172 = .ok (.aload_n 0, 1) := dk_42 (dk_at dksX4_init_7 8 rfl rfl)
theorem dX4_init_173 : decode cX4_init 173 = .ok (.sipush 9061, 3) := dk_17 35 101 (dk_at dksX4_init_7 9 rfl rfl)
theorem dX4_init_176 : decode cX4_init 176 = .ok (.newarray .int, 2) := dk_188_10 (dk_at dksX4_init_7 12 rfl rfl)
theorem dX4_init_178 : decode cX4_init 178 = .ok (.putfield 80, 3) := dk_181 0 80 (dk_at dksX4_init_7 14 rfl rfl)
theorem dX4_init_181 : decode cX4_init 181 = .ok (.aload_n 0, 1) := dk_42 (dk_at dksX4_init_7 17 rfl rfl)
theorem dX4_init_182 : decode cX4_init 182 = .ok (.bipush 100, 2) := dk_16 100 (dk_at dksX4_init_7 18 rfl rfl)
theorem dX4_init_184 : decode cX4_init 184 = .ok (.newarray .int, 2) := dk_188_10 (dk_at dksX4_init_7 20 rfl rfl)
theorem dX4_init_186 : decode cX4_init 186 = .ok (.putfield 83, 3) := dk_181 0 83 (dk_at dksX4_init_8 0 rfl rfl)
theorem dX4_init_189 : decode cX4_init 189 = .ok (.aload_n 0, 1) := dk_42 (dk_at dksX4_init_8 3 rfl rfl)
theorem dX4_init_190 : decode cX4_init 190 = .ok (.iconst 4, 1) := dk_7 (dk_at dksX4_init_8 4 rfl rfl)
theorem dX4_init_191 : decode cX4_init 191 = .ok (.newarray .int, 2) := dk_188_10 (dk_at dksX4_init_8 5 rfl rfl)
theorem dX4_init_193 : decode cX4_init 193 = .ok (.putfield 86, 3) := dk_181 0 86 (dk_at dksX4_init_8 7 rfl rfl)
theorem dX4_init_196 : decode cX4_init 196 = .ok (.aload_n 0, 1) := dk_42 (dk_at dksX4_init_8 10 rfl rfl)
theorem dX4_init_197 : decode cX4_init 197 = .ok (.iconst 4, 1) := dk_7 (dk_at dksX4_init_8 11 rfl rfl)
theorem dX4_init_198 : decode cX4_init 198 = .ok (.newarray .int, 2) := dk_188_10 (dk_at dksX4_init_8 12 rfl rfl)
theorem dX4_init_200 : decode cX4_init 200 = .ok (.putfield 89, 3) := dk_181 0 89 (dk_at dksX4_init_8 14 rfl rfl)
theorem dX4_init_203 : decode cX4_init 203 = .ok (.aload_n 0, 1) := dk_42 (dk_at dksX4_init_8 17 rfl rfl)
theorem dX4_init_204 : decode cX4_init 204 = .ok (.bipush 12, 2) := dk_16 12 (dk_at dksX4_init_8 18 rfl rfl)
theorem dX4_init_206 : decode cX4_init 206 = .ok (.newarray .int, 2) := dk_188_10 (dk_at dksX4_init_8 20 rfl rfl)
theorem dX4_init_208 : decode cX4_init 208 = .ok (.putfield 92, 3) := dk_181 0 92 (dk_at dksX4_init_9 0 rfl rfl)
theorem dX4_init_211 : decode cX4_init 211 = .ok (.aload_n 0, 1) := dk_42 (dk_at dksX4_init_9 3 rfl rfl)
theorem dX4_init_212 : decode cX4_init 212 = .ok (.sipush 4096, 3) := dk_17 16 0 (dk_at dksX4_init_9 4 rfl rfl)
theorem dX4_init_215 : decode cX4_init 215 = .ok (.newarray .int, 2) := dk_188_10 (dk_at dksX4_init_9 7 rfl rfl)
theorem dX4_init_217 : decode cX4_init 217 = .ok (.putfield 95, 3) := dk_181 0 95 (dk_at dksX4_init_9 9 rfl rfl)
theorem dX4_init_220 : decode cX4_init 220 = .ok (.aload_n 0, 1) := dk_42 (dk_at dksX4_init_9 12 rfl rfl)
theorem dX4_init_221 : decode cX4_init 221 = .ok (.sipush 20480, 3) := dk_17 80 0 (dk_at dksX4_init_9 13 rfl rfl)
theorem dX4_init_224 : decode cX4_init 224 = .ok (.newarray .int, 2) := dk_188_10 (dk_at dksX4_init_9 16 rfl rfl)
theorem dX4_init_226 : decode cX4_init 226 = .ok (.putfield 98, 3) := dk_181 0 98 (dk_at dksX4_init_9 18 rfl rfl)
theorem dX4_init_229 : decode cX4_init 229 = .ok (.aload_n 0, 1) := dk_42 (dk_at dksX4_init_9 21 rfl rfl)
theorem dX4_init_230 : decode cX4_init 230 = .ok (.ldc 101, 2) := dk_18 101 (dk_at dksX4_init_9 22 rfl rfl)
theorem dX4_init_232 : decode cX4_init 232 = .ok (.newarray .int, 2) := dk_188_10 (dk_at dksX4_init_10 0 rfl rfl)
theorem dX4_init_234 : decode cX4_init 234 = .ok (.putfield 102, 3) := dk_181 0 102 (dk_at dksX4_init_10 2 rfl rfl)
theorem dX4_init_237 : decode cX4_init 237 = .ok (.aload_n 0, 1) := dk_42 (dk_at dksX4_init_10 5 rfl rfl)
theorem dX4_init_238 : decode cX4_init 238 = .ok (.bipush 40, 2) := dk_16 40 (dk_at dksX4_init_10 6 rfl rfl)
theorem dX4_init_240 : decode cX4_init 240 = .ok (.newarray .int, 2) := dk_188_10 (dk_at dksX4_init_10 8 rfl rfl)
theorem dX4_init_242 : decode cX4_init 242 = .ok (.putfield 105, 3) := dk_181 0 105 (dk_at dksX4_init_10 10 rfl rfl)
theorem dX4_init_245 : decode cX4_init 245 = .ok (.aload_n 0, 1) := dk_42 (dk_at dksX4_init_10 13 rfl rfl)
theorem dX4_init_246 : decode cX4_init 246 = .ok (.bipush 40, 2) := dk_16 40 (dk_at dksX4_init_10 14 rfl rfl)
theorem dX4_init_248 : decode cX4_init 248 = .ok (.newarray .int, 2) := dk_188_10 (dk_at dksX4_init_10 16 rfl rfl)
theorem dX4_init_250 : decode cX4_init 250 = .ok (.putfield 108, 3) := dk_181 0 108 (dk_at dksX4_init_10 18 rfl rfl)
theorem dX4_init_253 : decode cX4_init 253 = .ok (.aload_n 0, 1) := dk_42 (dk_at dksX4_init_10 21 rfl rfl)
theorem dX4_init_254 : decode cX4_init 254 = .ok (.bipush 40, 2) := dk_16 40 (dk_at dksX4_init_10 22 rfl rfl)
theorem dX4_init_256 : decode cX4_init 256 = .ok (.newarray .int, 2) := dk_188_10 (dk_at dksX4_init_11 0 rfl rfl)
theorem dX4_init_258 : decode cX4_init 258 = .ok (.putfield 111, 3) := dk_181 0 111 (dk_at dksX4_init_11 2 rfl rfl)
theorem dX4_init_261 : decode cX4_init 261 = .ok (.aload_n 0, 1) := dk_42 (dk_at dksX4_init_11 5 rfl rfl)
theorem dX4_init_262 : decode cX4_init 262 = .ok (.bipush 40, 2) := dk_16 40 (dk_at dksX4_init_11 6 rfl rfl)
theorem dX4_init_264 : decode cX4_init 264 = .ok (.newarray .int, 2) := dk_188_10 (dk_at dksX4_init_11 8 rfl rfl)
theorem dX4_init_266 : decode cX4_init 266 = .ok (.putfield 114, 3) := dk_181 0 114 (dk_at dksX4_init_11 10 rfl rfl)
theorem dX4_init_269 : decode cX4_init 269 = .ok (.aload_n 0, 1) := dk_42 (dk_at dksX4_init_11 13 rfl rfl)
theorem dX4_init_270 : decode cX4_init 270 = .ok (.bipush 40, 2) := dk_16 40 (dk_at dksX4_init_11 14 rfl rfl)
theorem dX4_init_272 : decode cX4_init 272 = .ok (.newarray .int, 2) := dk_188_10 (dk_at dksX4_init_11 16 rfl rfl)
theorem dX4_init_274 : decode cX4_init 274 = .ok (.putfield 117, 3) := dk_181 0 117 (dk_at dksX4_init_11 18 rfl rfl)
theorem dX4_init_277 : decode cX4_init 277 = .ok (.aload_n 0, 1) := dk_42 (dk_at dksX4_init_11 21 rfl rfl)
theorem dX4_init_278 : decode cX4_init 278 = .ok (.bipush 40, 2) := dk_16 40 (dk_at dksX4_init_11 22 rfl rfl)
theorem dX4_init_280 : decode cX4_init 280 = .ok (.newarray .int, 2) := dk_188_10 (dk_at dksX4_init_12 0 rfl rfl)
theorem dX4_init_282 : decode cX4_init 282 = .ok (.putfield 120, 3) := dk_181 0 120 (dk_at dksX4_init_12 2 rfl rfl)
theorem dX4_init_285 : decode cX4_init 285 = .ok (.aload_n 0, 1) := dk_42 (dk_at dksX4_init_12 5 rfl rfl)
theorem dX4_init_286 : decode cX4_init 286 = .ok (.bipush 7, 2) := dk_16 7 (dk_at dksX4_init_12 6 rfl rfl)
theorem dX4_init_288 : decode cX4_init 288 = .ok (.newarray .int, 2) := dk_188_10 (dk_at dksX4_init_12 8 rfl rfl)
theorem dX4_init_290 : decode cX4_init 290 = .ok (.putfield 123, 3) := dk_181 0 123 (dk_at dksX4_init_12 10 rfl rfl)
theorem dX4_init_293 : decode cX4_init 293 = .ok (.aload_n 0, 1) := dk_42 (dk_at dksX4_init_12 13 rfl rfl)
theorem dX4_init_294 : decode cX4_init 294 = .ok (.bipush 7, 2) := dk_16 7 (dk_at dksX4_init_12 14 rfl rfl)
theorem dX4_init_296 : decode cX4_init 296 = .ok (.newarray .int, 2) := dk_188_10 (dk_at dksX4_init_12 16 rfl rfl)
theorem dX4_init_298 : decode cX4_init 298 = .ok (.putfield 126, 3) := dk_181 0 126 (dk_at dksX4_init_12 18 rfl rfl)
theorem dX4_init_301 : decode cX4_init 301 = .ok (.aload_n 0, 1) := dk_42 (dk_at dksX4_init_12 21 rfl rfl)
theorem dX4_init_302 : decode cX4_init 302 = .ok (.bipush 49, 2) := dk_16 49 (dk_at dksX4_init_12 22 rfl rfl)
theorem dX4_init_304 : decode cX4_init 304 = .ok (.newarray .int, 2) := dk_188_10 (dk_at dksX4_init_13 0 rfl rfl)
theorem dX4_init_306 : decode cX4_init 306 = .ok (.putfield 129, 3) := dk_181 0 129 (dk_at dksX4_init_13 2 rfl rfl)
theorem dX4_init_309 : decode cX4_init 309 = .ok (.aload_n 0, 1) := dk_42 (dk_at dksX4_init_13 5 rfl rfl)
theorem dX4_init_310 : decode cX4_init 310 = .ok (.bipush 7, 2) := dk_16 7 (dk_at dksX4_init_13 6 rfl rfl)
theorem dX4_init_312 : decode cX4_init 312 = .ok (.newarray .int, 2) := dk_188_10 (dk_at dksX4_init_13 8 rfl rfl)
theorem dX4_init_314 : decode cX4_init 314 = .ok (.putfield 132, 3) := dk_181 0 132 (dk_at dksX4_init_13 10 rfl rfl)
theorem dX4_init_317 : decode cX4_init 317 = .ok (.aload_n 0, 1) := dk_42 (dk_at dksX4_init_13 13 rfl rfl)
theorem dX4_init_318 : decode cX4_init 318 = .ok (.bipush 8, 2) := dk_16 8 (dk_at dksX4_init_13 14 rfl rfl)
theorem dX4_init_320 : decode cX4_init 320 = .ok (.newarray .int, 2) := dk_188_10 (dk_at dksX4_init_13 16 rfl rfl)
theorem dX4_init_322 : decode cX4_init 322 = .ok (.putfield 135, 3) := dk_181 0 135 (dk_at dksX4_init_13 18 rfl rfl)
theorem dX4_init_325 : decode cX4_init 325 = .ok (.aload_n 0, 1) := dk_42 (dk_at dksX4_init_13 21 rfl rfl)
theorem dX4_init_326 : decode cX4_init 326 = .ok (.bipush 8, 2) := dk_16 8 (dk_at dksX4_init_13 22 rfl rfl)
theorem dX4_init_328 : decode cX4_init 328 = .ok (.newarray .int, 2) := dk_188_10 (dk_at dksX4_init_14 0 rfl rfl)
theorem dX4_init_330 : decode cX4_init 330 = .ok (.putfield 138, 3) := dk_181 0 138 (dk_at dksX4_init_14 2 rfl rfl)
theorem dX4_init_333 : decode cX4_init 333 = .ok (.aload_n 0, 1) := dk_42 (dk_at dksX4_init_14 5 rfl rfl)
theorem dX4_init_334 : decode cX4_init 334 = .ok (.sipush 663, 3) := dk_17 2 151 (dk_at dksX4_init_14 6 rfl rfl)
theorem dX4_init_337 : decode cX4_init 337 = .ok (.newarray .int, 2) := dk_188_10 (dk_at dksX4_init_14 9 rfl rfl)
theorem dX4_init_339 : decode cX4_init 339 = .ok (.putfield 141, 3) := dk_181 0 141 (dk_at dksX4_init_14 11 rfl rfl)
theorem dX4_init_342 : decode cX4_init 342 = .ok (.aload_n 0, 1) := dk_42 (dk_at dksX4_init_14 14 rfl rfl)
theorem dX4_init_343 : decode cX4_init 343 = .ok (.iconst 3, 1) := dk_6 (dk_at dksX4_init_14 15 rfl rfl)
theorem dX4_init_344 : decode cX4_init 344 = .ok (.newarray .boolean, 2) := dk_188_4 (dk_at dksX4_init_14 16 rfl rfl)
theorem dX4_init_346 : decode cX4_init 346 = .ok (.putfield 144, 3) := dk_181 0 144 (dk_at dksX4_init_14 18 rfl rfl)
theorem dX4_init_349 : decode cX4_init 349 = .ok (.aload_n 0, 1) := dk_42 (dk_at dksX4_init_14 21 rfl rfl)
theorem dX4_init_350 : decode cX4_init 350 = .ok (.invokevirtual 147, 3) := dk_182 0 147 (dk_at dksX4_init_15 0 rfl rfl)
theorem dX4_init_353 : decode cX4_init 353 = .ok (.aload_n 0, 1) := dk_42 (dk_at dksX4_init_15 3 rfl rfl)
theorem dX4_init_354 : decode cX4_init 354 = .ok (.invokevirtual 150, 3) := dk_182 0 150 (dk_at dksX4_init_15 4 rfl rfl)
theorem dX4_init_357 : decode cX4_init 357 = .ok (.return_, 1) := dk_177 (dk_at dksX4_init_15 7 rfl rfl)
abbrev cX4_clearBank : ByteArray := prog_27_method_15_code
def yX4_clearBank : MethodName := ⟨RX4, "clearBank", "()V"⟩
def dkwX4_clearBank_4 : List UInt8 := [180, 0, 55, 42, 180, 0, 241, 3, 84, 42, 17, 2, 48, 42, 180, 0, 241, 104, 181, 0, 244, 177]
abbrev dktX4_clearBank_4 : List UInt8 := dkwX4_clearBank_4 ++ []
def dkwX4_clearBank_3 : List UInt8 := [3, 79, 42, 180, 0, 48, 42, 180, 0, 241, 3, 84, 42, 180, 0, 52, 42, 180, 0, 241, 3, 84, 42]
abbrev dktX4_clearBank_3 : List UInt8 := dkwX4_clearBank_3 ++ dktX4_clearBank_4
def dkwX4_clearBank_2 : List UInt8 := [180, 0, 241, 16, 100, 79, 42, 180, 0, 36, 42, 180, 0, 241, 3, 79, 42, 180, 0, 39, 42, 180, 0, 241]
abbrev dktX4_clearBank_2 : List UInt8 := dkwX4_clearBank_2 ++ dktX4_clearBank_3
def dkwX4_clearBank_1 : List UInt8 := [180, 0, 27, 42, 180, 0, 241, 3, 79, 42, 180, 0, 30, 42, 180, 0, 241, 3, 79, 42, 180, 0, 33, 42]
abbrev dktX4_clearBank_1 : List UInt8 := dkwX4_clearBank_1 ++ dktX4_clearBank_2
def dkwX4_clearBank_0 : List UInt8 := [42, 180, 0, 20, 42, 180, 0, 241, 16, 8, 79, 42, 180, 0, 24, 42, 180, 0, 241, 3, 79, 42]
abbrev dktX4_clearBank_0 : List UInt8 := dkwX4_clearBank_0 ++ dktX4_clearBank_1
theorem dksX4_clearBank_0 : cX4_clearBank.data.toList.drop 0 = dktX4_clearBank_0 := by decide +kernel
theorem dksX4_clearBank_1 : cX4_clearBank.data.toList.drop 22 = dktX4_clearBank_1 := dk_seg dksX4_clearBank_0 22 rfl rfl
theorem dksX4_clearBank_2 : cX4_clearBank.data.toList.drop 46 = dktX4_clearBank_2 := dk_seg dksX4_clearBank_1 24 rfl rfl
theorem dksX4_clearBank_3 : cX4_clearBank.data.toList.drop 70 = dktX4_clearBank_3 := dk_seg dksX4_clearBank_2 24 rfl rfl
theorem dksX4_clearBank_4 : cX4_clearBank.data.toList.drop 93 = dktX4_clearBank_4 := dk_seg dksX4_clearBank_3 23 rfl rfl
theorem dX4_clearBank_0 : decode cX4_clearBank 0 = .ok (.aload_n 0, 1) := dk_42 (dk_at dksX4_clearBank_0 0 rfl rfl)
theorem dX4_clearBank_1 : decode cX4_clearBank 1 = .ok (.getfield 20, 3) := dk_180 0 20 (dk_at dksX4_clearBank_0 1 rfl rfl)
theorem dX4_clearBank_4 : decode cX4_clearBank 4 = .ok (.aload_n 0, 1) := dk_42 (dk_at dksX4_clearBank_0 4 rfl rfl)
theorem dX4_clearBank_5 : decode cX4_clearBank 5 = .ok (.getfield 241, 3) := dk_180 0 241 (dk_at dksX4_clearBank_0 5 rfl rfl)
theorem dX4_clearBank_8 : decode cX4_clearBank 8 = .ok (.bipush 8, 2) := dk_16 8 (dk_at dksX4_clearBank_0 8 rfl rfl)
theorem dX4_clearBank_10 : decode cX4_clearBank 10 = .ok (.iastore, 1) := dk_79 (dk_at dksX4_clearBank_0 10 rfl rfl)
theorem dX4_clearBank_11 : decode cX4_clearBank 11 = .ok (.aload_n 0, 1) := dk_42 (dk_at dksX4_clearBank_0 11 rfl rfl)
theorem dX4_clearBank_12 : decode cX4_clearBank 12 = .ok (.getfield 24, 3) := dk_180 0 24 (dk_at dksX4_clearBank_0 12 rfl rfl)
theorem dX4_clearBank_15 : decode cX4_clearBank 15 = .ok (.aload_n 0, 1) := dk_42 (dk_at dksX4_clearBank_0 15 rfl rfl)
theorem dX4_clearBank_16 : decode cX4_clearBank 16 = .ok (.getfield 241, 3) := dk_180 0 241 (dk_at dksX4_clearBank_0 16 rfl rfl)
theorem dX4_clearBank_19 : decode cX4_clearBank 19 = .ok (.iconst 0, 1) := dk_3 (dk_at dksX4_clearBank_0 19 rfl rfl)
theorem dX4_clearBank_20 : decode cX4_clearBank 20 = .ok (.iastore, 1) := dk_79 (dk_at dksX4_clearBank_0 20 rfl rfl)
theorem dX4_clearBank_21 : decode cX4_clearBank 21 = .ok (.aload_n 0, 1) := dk_42 (dk_at dksX4_clearBank_0 21 rfl rfl)
theorem dX4_clearBank_22 : decode cX4_clearBank 22 = .ok (.getfield 27, 3) := dk_180 0 27 (dk_at dksX4_clearBank_1 0 rfl rfl)
theorem dX4_clearBank_25 : decode cX4_clearBank 25 = .ok (.aload_n 0, 1) := dk_42 (dk_at dksX4_clearBank_1 3 rfl rfl)
theorem dX4_clearBank_26 : decode cX4_clearBank 26 = .ok (.getfield 241, 3) := dk_180 0 241 (dk_at dksX4_clearBank_1 4 rfl rfl)
theorem dX4_clearBank_29 : decode cX4_clearBank 29 = .ok (.iconst 0, 1) := dk_3 (dk_at dksX4_clearBank_1 7 rfl rfl)
theorem dX4_clearBank_30 : decode cX4_clearBank 30 = .ok (.iastore, 1) := dk_79 (dk_at dksX4_clearBank_1 8 rfl rfl)
theorem dX4_clearBank_31 : decode cX4_clearBank 31 = .ok (.aload_n 0, 1) := dk_42 (dk_at dksX4_clearBank_1 9 rfl rfl)
theorem dX4_clearBank_32 : decode cX4_clearBank 32 = .ok (.getfield 30, 3) := dk_180 0 30 (dk_at dksX4_clearBank_1 10 rfl rfl)
theorem dX4_clearBank_35 : decode cX4_clearBank 35 = .ok (.aload_n 0, 1) := dk_42 (dk_at dksX4_clearBank_1 13 rfl rfl)
theorem dX4_clearBank_36 : decode cX4_clearBank 36 = .ok (.getfield 241, 3) := dk_180 0 241 (dk_at dksX4_clearBank_1 14 rfl rfl)
theorem dX4_clearBank_39 : decode cX4_clearBank 39 = .ok (.iconst 0, 1) := dk_3 (dk_at dksX4_clearBank_1 17 rfl rfl)
theorem dX4_clearBank_40 : decode cX4_clearBank 40 = .ok (.iastore, 1) := dk_79 (dk_at dksX4_clearBank_1 18 rfl rfl)
theorem dX4_clearBank_41 : decode cX4_clearBank 41 = .ok (.aload_n 0, 1) := dk_42 (dk_at dksX4_clearBank_1 19 rfl rfl)
theorem dX4_clearBank_42 : decode cX4_clearBank 42 = .ok (.getfield 33, 3) := dk_180 0 33 (dk_at dksX4_clearBank_1 20 rfl rfl)
theorem dX4_clearBank_45 : decode cX4_clearBank 45 = .ok (.aload_n 0, 1) := dk_42 (dk_at dksX4_clearBank_1 23 rfl rfl)
theorem dX4_clearBank_46 : decode cX4_clearBank 46 = .ok (.getfield 241, 3) := dk_180 0 241 (dk_at dksX4_clearBank_2 0 rfl rfl)
theorem dX4_clearBank_49 : decode cX4_clearBank 49 = .ok (.bipush 100, 2) := dk_16 100 (dk_at dksX4_clearBank_2 3 rfl rfl)
theorem dX4_clearBank_51 : decode cX4_clearBank 51 = .ok (.iastore, 1) := dk_79 (dk_at dksX4_clearBank_2 5 rfl rfl)
theorem dX4_clearBank_52 : decode cX4_clearBank 52 = .ok (.aload_n 0, 1) := dk_42 (dk_at dksX4_clearBank_2 6 rfl rfl)
theorem dX4_clearBank_53 : decode cX4_clearBank 53 = .ok (.getfield 36, 3) := dk_180 0 36 (dk_at dksX4_clearBank_2 7 rfl rfl)
theorem dX4_clearBank_56 : decode cX4_clearBank 56 = .ok (.aload_n 0, 1) := dk_42 (dk_at dksX4_clearBank_2 10 rfl rfl)
theorem dX4_clearBank_57 : decode cX4_clearBank 57 = .ok (.getfield 241, 3) := dk_180 0 241 (dk_at dksX4_clearBank_2 11 rfl rfl)
theorem dX4_clearBank_60 : decode cX4_clearBank 60 = .ok (.iconst 0, 1) := dk_3 (dk_at dksX4_clearBank_2 14 rfl rfl)
theorem dX4_clearBank_61 : decode cX4_clearBank 61 = .ok (.iastore, 1) := dk_79 (dk_at dksX4_clearBank_2 15 rfl rfl)
theorem dX4_clearBank_62 : decode cX4_clearBank 62 = .ok (.aload_n 0, 1) := dk_42 (dk_at dksX4_clearBank_2 16 rfl rfl)
theorem dX4_clearBank_63 : decode cX4_clearBank 63 = .ok (.getfield 39, 3) := dk_180 0 39 (dk_at dksX4_clearBank_2 17 rfl rfl)
theorem dX4_clearBank_66 : decode cX4_clearBank 66 = .ok (.aload_n 0, 1) := dk_42 (dk_at dksX4_clearBank_2 20 rfl rfl)
theorem dX4_clearBank_67 : decode cX4_clearBank 67 = .ok (.getfield 241, 3) := dk_180 0 241 (dk_at dksX4_clearBank_2 21 rfl rfl)
theorem dX4_clearBank_70 : decode cX4_clearBank 70 = .ok (.iconst 0, 1) := dk_3 (dk_at dksX4_clearBank_3 0 rfl rfl)
theorem dX4_clearBank_71 : decode cX4_clearBank 71 = .ok (.iastore, 1) := dk_79 (dk_at dksX4_clearBank_3 1 rfl rfl)
theorem dX4_clearBank_72 : decode cX4_clearBank 72 = .ok (.aload_n 0, 1) := dk_42 (dk_at dksX4_clearBank_3 2 rfl rfl)
theorem dX4_clearBank_73 : decode cX4_clearBank 73 = .ok (.getfield 48, 3) := dk_180 0 48 (dk_at dksX4_clearBank_3 3 rfl rfl)
theorem dX4_clearBank_76 : decode cX4_clearBank 76 = .ok (.aload_n 0, 1) := dk_42 (dk_at dksX4_clearBank_3 6 rfl rfl)
theorem dX4_clearBank_77 : decode cX4_clearBank 77 = .ok (.getfield 241, 3) := dk_180 0 241 (dk_at dksX4_clearBank_3 7 rfl rfl)
theorem dX4_clearBank_80 : decode cX4_clearBank 80 = .ok (.iconst 0, 1) := dk_3 (dk_at dksX4_clearBank_3 10 rfl rfl)
theorem dX4_clearBank_81 : decode cX4_clearBank 81 = .ok (.bastore, 1) := dk_84 (dk_at dksX4_clearBank_3 11 rfl rfl)
theorem dX4_clearBank_82 : decode cX4_clearBank 82 = .ok (.aload_n 0, 1) := dk_42 (dk_at dksX4_clearBank_3 12 rfl rfl)
theorem dX4_clearBank_83 : decode cX4_clearBank 83 = .ok (.getfield 52, 3) := dk_180 0 52 (dk_at dksX4_clearBank_3 13 rfl rfl)
theorem dX4_clearBank_86 : decode cX4_clearBank 86 = .ok (.aload_n 0, 1) := dk_42 (dk_at dksX4_clearBank_3 16 rfl rfl)
theorem dX4_clearBank_87 : decode cX4_clearBank 87 = .ok (.getfield 241, 3) := dk_180 0 241 (dk_at dksX4_clearBank_3 17 rfl rfl)
theorem dX4_clearBank_90 : decode cX4_clearBank 90 = .ok (.iconst 0, 1) := dk_3 (dk_at dksX4_clearBank_3 20 rfl rfl)
theorem dX4_clearBank_91 : decode cX4_clearBank 91 = .ok (.bastore, 1) := dk_84 (dk_at dksX4_clearBank_3 21 rfl rfl)
theorem dX4_clearBank_92 : decode cX4_clearBank 92 = .ok (.aload_n 0, 1) := dk_42 (dk_at dksX4_clearBank_3 22 rfl rfl)
theorem dX4_clearBank_93 : decode cX4_clearBank 93 = .ok (.getfield 55, 3) := dk_180 0 55 (dk_at dksX4_clearBank_4 0 rfl rfl)
theorem dX4_clearBank_96 : decode cX4_clearBank 96 = .ok (.aload_n 0, 1) := dk_42 (dk_at dksX4_clearBank_4 3 rfl rfl)
theorem dX4_clearBank_97 : decode cX4_clearBank 97 = .ok (.getfield 241, 3) := dk_180 0 241 (dk_at dksX4_clearBank_4 4 rfl rfl)
theorem dX4_clearBank_100 : decode cX4_clearBank 100 = .ok (.iconst 0, 1) := dk_3 (dk_at dksX4_clearBank_4 7 rfl rfl)
theorem dX4_clearBank_101 : decode cX4_clearBank 101 = .ok (.bastore, 1) := dk_84 (dk_at dksX4_clearBank_4 8 rfl rfl)
theorem dX4_clearBank_102 : decode cX4_clearBank 102 = .ok (.aload_n 0, 1) := dk_42 (dk_at dksX4_clearBank_4 9 rfl rfl)
theorem dX4_clearBank_103 : decode cX4_clearBank 103 = .ok (.sipush 560, 3) := dk_17 2 48 (dk_at dksX4_clearBank_4 10 rfl rfl)
theorem dX4_clearBank_106 : decode cX4_clearBank 106 = .ok (.aload_n 0, 1) := dk_42 (dk_at dksX4_clearBank_4 13 rfl rfl)
theorem dX4_clearBank_107 : decode cX4_clearBank 107 = .ok (.getfield 241, 3) := dk_180 0 241 (dk_at dksX4_clearBank_4 14 rfl rfl)
theorem dX4_clearBank_110 : decode cX4_clearBank 110 = .ok (.imul, 1) := dk_104 (dk_at dksX4_clearBank_4 17 rfl rfl)
theorem dX4_clearBank_111 : decode cX4_clearBank 111 = .ok (.putfield 244, 3) := dk_181 0 244 (dk_at dksX4_clearBank_4 18 rfl rfl)
theorem dX4_clearBank_114 : decode cX4_clearBank 114 = .ok (.return_, 1) := dk_177 (dk_at dksX4_clearBank_4 21 rfl rfl)
abbrev cX4_startAnew : ByteArray := prog_27_method_47_code
def yX4_startAnew : MethodName := ⟨RX4, "startAnew", "()V"⟩
def dkwX4_startAnew_5 : List UInt8 := [27, 6, 162, 0, 16, 42, 180, 0, 144, 27, 3, 84, 132, 1, 1, 167, 255, 241, 177]
abbrev dktX4_startAnew_5 : List UInt8 := dkwX4_startAnew_5 ++ []
def dkwX4_startAnew_4 : List UInt8 := [46, 79, 42, 3, 181, 1, 115, 42, 3, 181, 1, 118, 42, 3, 181, 1, 121, 42, 3, 181, 1, 124, 3, 60]
abbrev dktX4_startAnew_4 : List UInt8 := dkwX4_startAnew_4 ++ dktX4_startAnew_5
def dkwX4_startAnew_3 : List UInt8 := [180, 0, 33, 42, 180, 0, 250, 46, 79, 42, 180, 0, 77, 17, 0, 220, 42, 180, 0, 36, 42, 180, 0, 250]
abbrev dktX4_startAnew_3 : List UInt8 := dkwX4_startAnew_3 ++ dktX4_startAnew_4
def dkwX4_startAnew_2 : List UInt8 := [180, 0, 77, 5, 2, 79, 42, 180, 0, 77, 17, 0, 216, 4, 79, 42, 180, 0, 77, 17, 0, 218, 42]
abbrev dktX4_startAnew_2 : List UInt8 := dkwX4_startAnew_2 ++ dktX4_startAnew_3
def dkwX4_startAnew_1 : List UInt8 := [180, 0, 77, 3, 42, 180, 0, 24, 42, 180, 0, 250, 46, 79, 42, 180, 0, 77, 4, 2, 79, 42]
abbrev dktX4_startAnew_1 : List UInt8 := dkwX4_startAnew_1 ++ dktX4_startAnew_2
def dkwX4_startAnew_0 : List UInt8 := [3, 60, 27, 17, 0, 221, 162, 0, 16, 42, 180, 0, 77, 27, 3, 79, 132, 1, 1, 167, 255, 239, 42]
abbrev dktX4_startAnew_0 : List UInt8 := dkwX4_startAnew_0 ++ dktX4_startAnew_1
theorem dksX4_startAnew_0 : cX4_startAnew.data.toList.drop 0 = dktX4_startAnew_0 := by decide +kernel
theorem dksX4_startAnew_1 : cX4_startAnew.data.toList.drop 23 = dktX4_startAnew_1 := dk_seg dksX4_startAnew_0 23 rfl rfl
theorem dksX4_startAnew_2 : cX4_startAnew.data.toList.drop 45 = dktX4_startAnew_2 := dk_seg dksX4_startAnew_1 22 rfl rfl
theorem dksX4_startAnew_3 : cX4_startAnew.data.toList.drop 68 = dktX4_startAnew_3 := dk_seg dksX4_startAnew_2 23 rfl rfl
theorem dksX4_startAnew_4 : cX4_startAnew.data.toList.drop 92 = dktX4_startAnew_4 := dk_seg dksX4_startAnew_3 24 rfl rfl
theorem dksX4_startAnew_5 : cX4_startAnew.data.toList.drop 116 = dktX4_startAnew_5 := dk_seg dksX4_startAnew_4 24 rfl rfl
theorem dX4_startAnew_0 : decode cX4_startAnew 0 = .ok (.iconst 0, 1) := dk_3 (dk_at dksX4_startAnew_0 0 rfl rfl)
theorem dX4_startAnew_1 : decode cX4_startAnew 1 = .ok (.istore_n 1, 1) := dk_60 (dk_at dksX4_startAnew_0 1 rfl rfl)
theorem dX4_startAnew_2 : decode cX4_startAnew 2 = .ok (.iload_n 1, 1) := dk_27 (dk_at dksX4_startAnew_0 2 rfl rfl)
theorem dX4_startAnew_3 : decode cX4_startAnew 3 = .ok (.sipush 221, 3) := dk_17 0 221 (dk_at dksX4_startAnew_0 3 rfl rfl)
theorem dX4_startAnew_6 : decode cX4_startAnew 6 = .ok (.if_icmp .ge 16, 3) := dk_162 0 16 (dk_at dksX4_startAnew_0 6 rfl rfl)
theorem dX4_startAnew_9 : decode cX4_startAnew 9 = .ok (.aload_n 0, 1) := dk_42 (dk_at dksX4_startAnew_0 9 rfl rfl)
theorem dX4_startAnew_10 : decode cX4_startAnew 10 = .ok (.getfield 77, 3) := dk_180 0 77 (dk_at dksX4_startAnew_0 10 rfl rfl)
theorem dX4_startAnew_13 : decode cX4_startAnew 13 = .ok (.iload_n 1, 1) := dk_27 (dk_at dksX4_startAnew_0 13 rfl rfl)
theorem dX4_startAnew_14 : decode cX4_startAnew 14 = .ok (.iconst 0, 1) := dk_3 (dk_at dksX4_startAnew_0 14 rfl rfl)
theorem dX4_startAnew_15 : decode cX4_startAnew 15 = .ok (.iastore, 1) := dk_79 (dk_at dksX4_startAnew_0 15 rfl rfl)
theorem dX4_startAnew_16 : decode cX4_startAnew 16 = .ok (.iinc 1 1, 3) := dk_132 1 1 (dk_at dksX4_startAnew_0 16 rfl rfl)
theorem dX4_startAnew_19 : decode cX4_startAnew 19 = .ok (.goto (-17), 3) := dk_167 255 239 (dk_at dksX4_startAnew_0 19 rfl rfl)
theorem dX4_startAnew_22 : decode cX4_startAnew 22 = .ok (.aload_n 0, 1) := dk_42 (dk_at dksX4_startAnew_0 22 rfl rfl)
theorem dX4_startAnew_23 : decode cX4_startAnew 23 = .ok (.getfield 77, 3) := dk_180 0 77 (dk_at dksX4_startAnew_1 0 rfl rfl)
theorem dX4_startAnew_26 : decode cX4_startAnew 26 = .ok (.iconst 0, 1) := dk_3 (dk_at dksX4_startAnew_1 3 rfl rfl)
theorem dX4_startAnew_27 : decode cX4_startAnew 27 = .ok (.aload_n 0, 1) := dk_42 (dk_at dksX4_startAnew_1 4 rfl rfl)
theorem dX4_startAnew_28 : decode cX4_startAnew 28 = .ok (.getfield 24, 3) := dk_180 0 24 (dk_at dksX4_startAnew_1 5 rfl rfl)
theorem dX4_startAnew_31 : decode cX4_startAnew 31 = .ok (.aload_n 0, 1) := dk_42 (dk_at dksX4_startAnew_1 8 rfl rfl)
theorem dX4_startAnew_32 : decode cX4_startAnew 32 = .ok (.getfield 250, 3) := dk_180 0 250 (dk_at dksX4_startAnew_1 9 rfl rfl)
theorem dX4_startAnew_35 : decode cX4_startAnew 35 = .ok (.iaload, 1) := dk_46 (dk_at dksX4_startAnew_1 12 rfl rfl)
theorem dX4_startAnew_36 : decode cX4_startAnew 36 = .ok (.iastore, 1) := dk_79 (dk_at dksX4_startAnew_1 13 rfl rfl)
theorem dX4_startAnew_37 : decode cX4_startAnew 37 = .ok (.aload_n 0, 1) := dk_42 (dk_at dksX4_startAnew_1 14 rfl rfl)
theorem dX4_startAnew_38 : decode cX4_startAnew 38 = .ok (.getfield 77, 3) := dk_180 0 77 (dk_at dksX4_startAnew_1 15 rfl rfl)
theorem dX4_startAnew_41 : decode cX4_startAnew 41 = .ok (.iconst 1, 1) := dk_4 (dk_at dksX4_startAnew_1 18 rfl rfl)
theorem dX4_startAnew_42 : decode cX4_startAnew 42 = .ok (.iconst (-1), 1) := dk_2 (dk_at dksX4_startAnew_1 19 rfl rfl)
theorem dX4_startAnew_43 : decode cX4_startAnew 43 = .ok (.iastore, 1) := dk_79 (dk_at dksX4_startAnew_1 20 rfl rfl)
theorem dX4_startAnew_44 : decode cX4_startAnew 44 = .ok (.aload_n 0, 1) := dk_42 (dk_at dksX4_startAnew_1 21 rfl rfl)
theorem dX4_startAnew_45 : decode cX4_startAnew 45 = .ok (.getfield 77, 3) := dk_180 0 77 (dk_at dksX4_startAnew_2 0 rfl rfl)
theorem dX4_startAnew_48 : decode cX4_startAnew 48 = .ok (.iconst 2, 1) := dk_5 (dk_at dksX4_startAnew_2 3 rfl rfl)
theorem dX4_startAnew_49 : decode cX4_startAnew 49 = .ok (.iconst (-1), 1) := dk_2 (dk_at dksX4_startAnew_2 4 rfl rfl)
theorem dX4_startAnew_50 : decode cX4_startAnew 50 = .ok (.iastore, 1) := dk_79 (dk_at dksX4_startAnew_2 5 rfl rfl)
theorem dX4_startAnew_51 : decode cX4_startAnew 51 = .ok (.aload_n 0, 1) := dk_42 (dk_at dksX4_startAnew_2 6 rfl rfl)
theorem dX4_startAnew_52 : decode cX4_startAnew 52 = .ok (.getfield 77, 3) := dk_180 0 77 (dk_at dksX4_startAnew_2 7 rfl rfl)
theorem dX4_startAnew_55 : decode cX4_startAnew 55 = .ok (.sipush 216, 3) := dk_17 0 216 (dk_at dksX4_startAnew_2 10 rfl rfl)
theorem dX4_startAnew_58 : decode cX4_startAnew 58 = .ok (.iconst 1, 1) := dk_4 (dk_at dksX4_startAnew_2 13 rfl rfl)
theorem dX4_startAnew_59 : decode cX4_startAnew 59 = .ok (.iastore, 1) := dk_79 (dk_at dksX4_startAnew_2 14 rfl rfl)
theorem dX4_startAnew_60 : decode cX4_startAnew 60 = .ok (.aload_n 0, 1) := dk_42 (dk_at dksX4_startAnew_2 15 rfl rfl)
theorem dX4_startAnew_61 : decode cX4_startAnew 61 = .ok (.getfield 77, 3) := dk_180 0 77 (dk_at dksX4_startAnew_2 16 rfl rfl)
theorem dX4_startAnew_64 : decode cX4_startAnew 64 = .ok (.sipush 218, 3) := dk_17 0 218 (dk_at dksX4_startAnew_2 19 rfl rfl)
theorem dX4_startAnew_67 : decode cX4_startAnew 67 = .ok (.aload_n 0, 1) := dk_42 (dk_at dksX4_startAnew_2 22 rfl rfl)
theorem dX4_startAnew_68 : decode cX4_startAnew 68 = .ok (.getfield 33, 3) := dk_180 0 33 (dk_at dksX4_startAnew_3 0 rfl rfl)
theorem dX4_startAnew_71 : decode cX4_startAnew 71 = .ok (.aload_n 0, 1) := dk_42 (dk_at dksX4_startAnew_3 3 rfl rfl)
theorem dX4_startAnew_72 : decode cX4_startAnew 72 = .ok (.getfield 250, 3) := dk_180 0 250 (dk_at dksX4_startAnew_3 4 rfl rfl)
theorem dX4_startAnew_75 : decode cX4_startAnew 75 = .ok (.iaload, 1) := dk_46 (dk_at dksX4_startAnew_3 7 rfl rfl)
theorem dX4_startAnew_76 : decode cX4_startAnew 76 = .ok (.iastore, 1) := dk_79 (dk_at dksX4_startAnew_3 8 rfl rfl)
theorem dX4_startAnew_77 : decode cX4_startAnew 77 = .ok (.aload_n 0, 1) := dk_42 (dk_at dksX4_startAnew_3 9 rfl rfl)
theorem dX4_startAnew_78 : decode cX4_startAnew 78 = .ok (.getfield 77, 3) := dk_180 0 77 (dk_at dksX4_startAnew_3 10 rfl rfl)
theorem dX4_startAnew_81 : decode cX4_startAnew 81 = .ok (.sipush 220, 3) := dk_17 0 220 (dk_at dksX4_startAnew_3 13 rfl rfl)
theorem dX4_startAnew_84 : decode cX4_startAnew 84 = .ok (.aload_n 0, 1) := dk_42 (dk_at dksX4_startAnew_3 16 rfl rfl)
theorem dX4_startAnew_85 : decode cX4_startAnew 85 = .ok (.getfield 36, 3) := dk_180 0 36 (dk_at dksX4_startAnew_3 17 rfl rfl)
theorem dX4_startAnew_88 : decode cX4_startAnew 88 = .ok (.aload_n 0, 1) := dk_42 (dk_at dksX4_startAnew_3 20 rfl rfl)
theorem dX4_startAnew_89 : decode cX4_startAnew 89 = .ok (.getfield 250, 3) := dk_180 0 250 (dk_at dksX4_startAnew_3 21 rfl rfl)
theorem dX4_startAnew_92 : decode cX4_startAnew 92 = .ok (.iaload, 1) := dk_46 (dk_at dksX4_startAnew_4 0 rfl rfl)
theorem dX4_startAnew_93 : decode cX4_startAnew 93 = .ok (.iastore, 1) := dk_79 (dk_at dksX4_startAnew_4 1 rfl rfl)
theorem dX4_startAnew_94 : decode cX4_startAnew 94 = .ok (.aload_n 0, 1) := dk_42 (dk_at dksX4_startAnew_4 2 rfl rfl)
theorem dX4_startAnew_95 : decode cX4_startAnew 95 = .ok (.iconst 0, 1) := dk_3 (dk_at dksX4_startAnew_4 3 rfl rfl)
theorem dX4_startAnew_96 : decode cX4_startAnew 96 = .ok (.putfield 371, 3) := dk_181 1 115 (dk_at dksX4_startAnew_4 4 rfl rfl)
theorem dX4_startAnew_99 : decode cX4_startAnew 99 = .ok (.aload_n 0, 1) := dk_42 (dk_at dksX4_startAnew_4 7 rfl rfl)
theorem dX4_startAnew_100 : decode cX4_startAnew 100 = .ok (.iconst 0, 1) := dk_3 (dk_at dksX4_startAnew_4 8 rfl rfl)
theorem dX4_startAnew_101 : decode cX4_startAnew 101 = .ok (.putfield 374, 3) := dk_181 1 118 (dk_at dksX4_startAnew_4 9 rfl rfl)
theorem dX4_startAnew_104 : decode cX4_startAnew 104 = .ok (.aload_n 0, 1) := dk_42 (dk_at dksX4_startAnew_4 12 rfl rfl)
theorem dX4_startAnew_105 : decode cX4_startAnew 105 = .ok (.iconst 0, 1) := dk_3 (dk_at dksX4_startAnew_4 13 rfl rfl)
theorem dX4_startAnew_106 : decode cX4_startAnew 106 = .ok (.putfield 377, 3) := dk_181 1 121 (dk_at dksX4_startAnew_4 14 rfl rfl)
theorem dX4_startAnew_109 : decode cX4_startAnew 109 = .ok (.aload_n 0, 1) := dk_42 (dk_at dksX4_startAnew_4 17 rfl rfl)
theorem dX4_startAnew_110 : decode cX4_startAnew 110 = .ok (.iconst 0, 1) := dk_3 (dk_at dksX4_startAnew_4 18 rfl rfl)
theorem dX4_startAnew_111 : decode cX4_startAnew 111 = .ok (.putfield 380, 3) := dk_181 1 124 (dk_at dksX4_startAnew_4 19 rfl rfl)
theorem dX4_startAnew_114 : decode cX4_startAnew 114 = .ok (.iconst 0, 1) := dk_3 (dk_at dksX4_startAnew_4 22 rfl rfl)
theorem dX4_startAnew_115 : decode cX4_startAnew 115 = .ok (.istore_n 1, 1) := dk_60 (dk_at dksX4_startAnew_4 23 rfl rfl)
theorem dX4_startAnew_116 : decode cX4_startAnew 116 = .ok (.iload_n 1, 1) := dk_27 (dk_at dksX4_startAnew_5 0 rfl rfl)
theorem dX4_startAnew_117 : decode cX4_startAnew 117 = .ok (.iconst 3, 1) := dk_6 (dk_at dksX4_startAnew_5 1 rfl rfl)
theorem dX4_startAnew_118 : decode cX4_startAnew 118 = .ok (.if_icmp .ge 16, 3) := dk_162 0 16 (dk_at dksX4_startAnew_5 2 rfl rfl)
theorem dX4_startAnew_121 : decode cX4_startAnew 121 = .ok (.aload_n 0, 1) := dk_42 (dk_at dksX4_startAnew_5 5 rfl rfl)
theorem dX4_startAnew_122 : decode cX4_startAnew 122 = .ok (.getfield 144, 3) := dk_180 0 144 (dk_at dksX4_startAnew_5 6 rfl rfl)
theorem dX4_startAnew_125 : decode cX4_startAnew 125 = .ok (.iload_n 1, 1) := dk_27 (dk_at dksX4_startAnew_5 9 rfl rfl)
theorem dX4_startAnew_126 : decode cX4_startAnew 126 = .ok (.iconst 0, 1) := dk_3 (dk_at dksX4_startAnew_5 10 rfl rfl)
theorem dX4_startAnew_127 : decode cX4_startAnew 127 = .ok (.bastore, 1) := dk_84 (dk_at dksX4_startAnew_5 11 rfl rfl)
theorem dX4_startAnew_128 : decode cX4_startAnew 128 = .ok (.iinc 1 1, 3) := dk_132 1 1 (dk_at dksX4_startAnew_5 12 rfl rfl)
theorem dX4_startAnew_131 : decode cX4_startAnew 131 = .ok (.goto (-15), 3) := dk_167 255 241 (dk_at dksX4_startAnew_5 15 rfl rfl)
theorem dX4_startAnew_134 : decode cX4_startAnew 134 = .ok (.return_, 1) := dk_177 (dk_at dksX4_startAnew_5 18 rfl rfl)
abbrev cX4_chancery : ByteArray := prog_27_method_16_code
def yX4_chancery : MethodName := ⟨RX4, "chancery", "()I"⟩
def dkwX4_chancery_5 : List UInt8 := [42, 180, 0, 27, 42, 180, 0, 250, 46, 172]
abbrev dktX4_chancery_5 : List UInt8 := dkwX4_chancery_5 ++ []
def dkwX4_chancery_4 : List UInt8 := [167, 255, 238, 42, 182, 0, 231, 154, 0, 5, 2, 172, 42, 42, 180, 0, 241, 181, 0, 250, 42, 182, 0, 150]
abbrev dktX4_chancery_4 : List UInt8 := dkwX4_chancery_4 ++ dktX4_chancery_5
def dkwX4_chancery_3 : List UInt8 := [42, 182, 0, 235, 42, 182, 0, 231, 153, 0, 17, 42, 180, 0, 203, 153, 0, 10, 42, 182, 0, 253]
abbrev dktX4_chancery_3 : List UInt8 := dkwX4_chancery_3 ++ dktX4_chancery_4
def dkwX4_chancery_2 : List UInt8 := [42, 3, 181, 0, 247, 42, 3, 181, 0, 193, 42, 4, 42, 180, 0, 250, 100, 181, 0, 241, 42, 182, 0, 147]
abbrev dktX4_chancery_2 : List UInt8 := dkwX4_chancery_2 ++ dktX4_chancery_3
def dkwX4_chancery_1 : List UInt8 := [180, 0, 153, 162, 0, 21, 42, 180, 0, 13, 27, 42, 180, 0, 7, 27, 51, 84, 132, 1, 1, 167, 255, 233]
abbrev dktX4_chancery_1 : List UInt8 := dkwX4_chancery_1 ++ dktX4_chancery_2
def dkwX4_chancery_0 : List UInt8 := [42, 3, 181, 0, 156, 42, 2, 181, 0, 16, 42, 42, 180, 0, 247, 181, 0, 153, 3, 60, 27, 42]
abbrev dktX4_chancery_0 : List UInt8 := dkwX4_chancery_0 ++ dktX4_chancery_1
theorem dksX4_chancery_0 : cX4_chancery.data.toList.drop 0 = dktX4_chancery_0 := by decide +kernel
theorem dksX4_chancery_1 : cX4_chancery.data.toList.drop 22 = dktX4_chancery_1 := dk_seg dksX4_chancery_0 22 rfl rfl
theorem dksX4_chancery_2 : cX4_chancery.data.toList.drop 46 = dktX4_chancery_2 := dk_seg dksX4_chancery_1 24 rfl rfl
theorem dksX4_chancery_3 : cX4_chancery.data.toList.drop 70 = dktX4_chancery_3 := dk_seg dksX4_chancery_2 24 rfl rfl
theorem dksX4_chancery_4 : cX4_chancery.data.toList.drop 92 = dktX4_chancery_4 := dk_seg dksX4_chancery_3 22 rfl rfl
theorem dksX4_chancery_5 : cX4_chancery.data.toList.drop 116 = dktX4_chancery_5 := dk_seg dksX4_chancery_4 24 rfl rfl
theorem dX4_chancery_0 : decode cX4_chancery 0 = .ok (.aload_n 0, 1) := dk_42 (dk_at dksX4_chancery_0 0 rfl rfl)
theorem dX4_chancery_1 : decode cX4_chancery 1 = .ok (.iconst 0, 1) := dk_3 (dk_at dksX4_chancery_0 1 rfl rfl)
theorem dX4_chancery_2 : decode cX4_chancery 2 = .ok (.putfield 156, 3) := dk_181 0 156 (dk_at dksX4_chancery_0 2 rfl rfl)
theorem dX4_chancery_5 : decode cX4_chancery 5 = .ok (.aload_n 0, 1) := dk_42 (dk_at dksX4_chancery_0 5 rfl rfl)
theorem dX4_chancery_6 : decode cX4_chancery 6 = .ok (.iconst (-1), 1) := dk_2 (dk_at dksX4_chancery_0 6 rfl rfl)
theorem dX4_chancery_7 : decode cX4_chancery 7 = .ok (.putfield 16, 3) := dk_181 0 16 (dk_at dksX4_chancery_0 7 rfl rfl)
theorem dX4_chancery_10 : decode cX4_chancery 10 = .ok (.aload_n 0, 1) := dk_42 (dk_at dksX4_chancery_0 10 rfl rfl)
theorem dX4_chancery_11 : decode cX4_chancery 11 = .ok (.aload_n 0, 1) := dk_42 (dk_at dksX4_chancery_0 11 rfl rfl)
theorem dX4_chancery_12 : decode cX4_chancery 12 = .ok (.getfield 247, 3) := dk_180 0 247 (dk_at dksX4_chancery_0 12 rfl rfl)
theorem dX4_chancery_15 : decode cX4_chancery 15 = .ok (.putfield 153, 3) := dk_181 0 153 (dk_at dksX4_chancery_0 15 rfl rfl)
theorem dX4_chancery_18 : decode cX4_chancery 18 = .ok (.iconst 0, 1) := dk_3 (dk_at dksX4_chancery_0 18 rfl rfl)
theorem dX4_chancery_19 : decode cX4_chancery 19 = .ok (.istore_n 1, 1) := dk_60 (dk_at dksX4_chancery_0 19 rfl rfl)
theorem dX4_chancery_20 : decode cX4_chancery 20 = .ok (.iload_n 1, 1) := dk_27 (dk_at dksX4_chancery_0 20 rfl rfl)
theorem dX4_chancery_21 : decode cX4_chancery 21 = .ok (.aload_n 0, 1) := dk_42 (dk_at dksX4_chancery_0 21 rfl rfl)
theorem dX4_chancery_22 : decode cX4_chancery 22 = .ok (.getfield 153, 3) := dk_180 0 153 (dk_at dksX4_chancery_1 0 rfl rfl)
theorem dX4_chancery_25 : decode cX4_chancery 25 = .ok (.if_icmp .ge 21, 3) := dk_162 0 21 (dk_at dksX4_chancery_1 3 rfl rfl)
theorem dX4_chancery_28 : decode cX4_chancery 28 = .ok (.aload_n 0, 1) := dk_42 (dk_at dksX4_chancery_1 6 rfl rfl)
theorem dX4_chancery_29 : decode cX4_chancery 29 = .ok (.getfield 13, 3) := dk_180 0 13 (dk_at dksX4_chancery_1 7 rfl rfl)
theorem dX4_chancery_32 : decode cX4_chancery 32 = .ok (.iload_n 1, 1) := dk_27 (dk_at dksX4_chancery_1 10 rfl rfl)
theorem dX4_chancery_33 : decode cX4_chancery 33 = .ok (.aload_n 0, 1) := dk_42 (dk_at dksX4_chancery_1 11 rfl rfl)
theorem dX4_chancery_34 : decode cX4_chancery 34 = .ok (.getfield 7, 3) := dk_180 0 7 (dk_at dksX4_chancery_1 12 rfl rfl)
theorem dX4_chancery_37 : decode cX4_chancery 37 = .ok (.iload_n 1, 1) := dk_27 (dk_at dksX4_chancery_1 15 rfl rfl)
theorem dX4_chancery_38 : decode cX4_chancery 38 = .ok (.baload, 1) := dk_51 (dk_at dksX4_chancery_1 16 rfl rfl)
theorem dX4_chancery_39 : decode cX4_chancery 39 = .ok (.bastore, 1) := dk_84 (dk_at dksX4_chancery_1 17 rfl rfl)
theorem dX4_chancery_40 : decode cX4_chancery 40 = .ok (.iinc 1 1, 3) := dk_132 1 1 (dk_at dksX4_chancery_1 18 rfl rfl)
theorem dX4_chancery_43 : decode cX4_chancery 43 = .ok (.goto (-23), 3) := dk_167 255 233 (dk_at dksX4_chancery_1 21 rfl rfl)
theorem dX4_chancery_46 : decode cX4_chancery 46 = .ok (.aload_n 0, 1) := dk_42 (dk_at dksX4_chancery_2 0 rfl rfl)
theorem dX4_chancery_47 : decode cX4_chancery 47 = .ok (.iconst 0, 1) := dk_3 (dk_at dksX4_chancery_2 1 rfl rfl)
theorem dX4_chancery_48 : decode cX4_chancery 48 = .ok (.putfield 247, 3) := dk_181 0 247 (dk_at dksX4_chancery_2 2 rfl rfl)
theorem dX4_chancery_51 : decode cX4_chancery 51 = .ok (.aload_n 0, 1) := dk_42 (dk_at dksX4_chancery_2 5 rfl rfl)
theorem dX4_chancery_52 : decode cX4_chancery 52 = .ok (.iconst 0, 1) := dk_3 (dk_at dksX4_chancery_2 6 rfl rfl)
theorem dX4_chancery_53 : decode cX4_chancery 53 = .ok (.putfield 193, 3) := dk_181 0 193 (dk_at dksX4_chancery_2 7 rfl rfl)
theorem dX4_chancery_56 : decode cX4_chancery 56 = .ok (.aload_n 0, 1) := dk_42 (dk_at dksX4_chancery_2 10 rfl rfl)
theorem dX4_chancery_57 : decode cX4_chancery 57 = .ok (.iconst 1, 1) := dk_4 (dk_at dksX4_chancery_2 11 rfl rfl)
theorem dX4_chancery_58 : decode cX4_chancery 58 = .ok (.aload_n 0, 1) := dk_42 (dk_at dksX4_chancery_2 12 rfl rfl)
theorem dX4_chancery_59 : decode cX4_chancery 59 = .ok (.getfield 250, 3) := dk_180 0 250 (dk_at dksX4_chancery_2 13 rfl rfl)
theorem dX4_chancery_62 : decode cX4_chancery 62 = .ok (.isub, 1) := dk_100 (dk_at dksX4_chancery_2 16 rfl rfl)
theorem dX4_chancery_63 : decode cX4_chancery 63 = .ok (.putfield 241, 3) := dk_181 0 241 (dk_at dksX4_chancery_2 17 rfl rfl)
theorem dX4_chancery_66 : decode cX4_chancery 66 = .ok (.aload_n 0, 1) := dk_42 (dk_at dksX4_chancery_2 20 rfl rfl)
theorem dX4_chancery_67 : decode cX4_chancery 67 = .ok (.invokevirtual 147, 3) := dk_182 0 147 (dk_at dksX4_chancery_2 21 rfl rfl)
theorem dX4_chancery_70 : decode cX4_chancery 70 = .ok (.aload_n 0, 1) := dk_42 (dk_at dksX4_chancery_3 0 rfl rfl)
theorem dX4_chancery_71 : decode cX4_chancery 71 = .ok (.invokevirtual 235, 3) := dk_182 0 235 (dk_at dksX4_chancery_3 1 rfl rfl)
theorem dX4_chancery_74 : decode cX4_chancery 74 = .ok (.aload_n 0, 1) := dk_42 (dk_at dksX4_chancery_3 4 rfl rfl)
theorem dX4_chancery_75 : decode cX4_chancery 75 = .ok (.invokevirtual 231, 3) := dk_182 0 231 (dk_at dksX4_chancery_3 5 rfl rfl)
theorem dX4_chancery_78 : decode cX4_chancery 78 = .ok (.ifCond .eq 17, 3) := dk_153 0 17 (dk_at dksX4_chancery_3 8 rfl rfl)
theorem dX4_chancery_81 : decode cX4_chancery 81 = .ok (.aload_n 0, 1) := dk_42 (dk_at dksX4_chancery_3 11 rfl rfl)
theorem dX4_chancery_82 : decode cX4_chancery 82 = .ok (.getfield 203, 3) := dk_180 0 203 (dk_at dksX4_chancery_3 12 rfl rfl)
theorem dX4_chancery_85 : decode cX4_chancery 85 = .ok (.ifCond .eq 10, 3) := dk_153 0 10 (dk_at dksX4_chancery_3 15 rfl rfl)
theorem dX4_chancery_88 : decode cX4_chancery 88 = .ok (.aload_n 0, 1) := dk_42 (dk_at dksX4_chancery_3 18 rfl rfl)
theorem dX4_chancery_89 : decode cX4_chancery 89 = .ok (.invokevirtual 253, 3) := dk_182 0 253 (dk_at dksX4_chancery_3 19 rfl rfl)
theorem dX4_chancery_92 : decode cX4_chancery 92 = .ok (.goto (-18), 3) := dk_167 255 238 (dk_at dksX4_chancery_4 0 rfl rfl)
theorem dX4_chancery_95 : decode cX4_chancery 95 = .ok (.aload_n 0, 1) := dk_42 (dk_at dksX4_chancery_4 3 rfl rfl)
theorem dX4_chancery_96 : decode cX4_chancery 96 = .ok (.invokevirtual 231, 3) := dk_182 0 231 (dk_at dksX4_chancery_4 4 rfl rfl)
theorem dX4_chancery_99 : decode cX4_chancery 99 = .ok (.ifCond .ne 5, 3) := dk_154 0 5 (dk_at dksX4_chancery_4 7 rfl rfl)
theorem dX4_chancery_102 : decode cX4_chancery 102 = .ok (.iconst (-1), 1) := dk_2 (dk_at dksX4_chancery_4 10 rfl rfl)
theorem dX4_chancery_103 : decode cX4_chancery 103 = .ok (.ireturn, 1) := dk_172 (dk_at dksX4_chancery_4 11 rfl rfl)
theorem dX4_chancery_104 : decode cX4_chancery 104 = .ok (.aload_n 0, 1) := dk_42 (dk_at dksX4_chancery_4 12 rfl rfl)
theorem dX4_chancery_105 : decode cX4_chancery 105 = .ok (.aload_n 0, 1) := dk_42 (dk_at dksX4_chancery_4 13 rfl rfl)
theorem dX4_chancery_106 : decode cX4_chancery 106 = .ok (.getfield 241, 3) := dk_180 0 241 (dk_at dksX4_chancery_4 14 rfl rfl)
theorem dX4_chancery_109 : decode cX4_chancery 109 = .ok (.putfield 250, 3) := dk_181 0 250 (dk_at dksX4_chancery_4 17 rfl rfl)
theorem dX4_chancery_112 : decode cX4_chancery 112 = .ok (.aload_n 0, 1) := dk_42 (dk_at dksX4_chancery_4 20 rfl rfl)
theorem dX4_chancery_113 : decode cX4_chancery 113 = .ok (.invokevirtual 150, 3) := dk_182 0 150 (dk_at dksX4_chancery_4 21 rfl rfl)
theorem dX4_chancery_116 : decode cX4_chancery 116 = .ok (.aload_n 0, 1) := dk_42 (dk_at dksX4_chancery_5 0 rfl rfl)
theorem dX4_chancery_117 : decode cX4_chancery 117 = .ok (.getfield 27, 3) := dk_180 0 27 (dk_at dksX4_chancery_5 1 rfl rfl)
theorem dX4_chancery_120 : decode cX4_chancery 120 = .ok (.aload_n 0, 1) := dk_42 (dk_at dksX4_chancery_5 4 rfl rfl)
theorem dX4_chancery_121 : decode cX4_chancery 121 = .ok (.getfield 250, 3) := dk_180 0 250 (dk_at dksX4_chancery_5 5 rfl rfl)
theorem dX4_chancery_124 : decode cX4_chancery 124 = .ok (.iaload, 1) := dk_46 (dk_at dksX4_chancery_5 8 rfl rfl)
theorem dX4_chancery_125 : decode cX4_chancery 125 = .ok (.ireturn, 1) := dk_172 (dk_at dksX4_chancery_5 9 rfl rfl)
abbrev cX4_goOn : ByteArray := prog_27_method_9_code
def yX4_goOn : MethodName := ⟨RX4, "goOn", "()V"⟩
def dkwX4_goOn_16 : List UInt8 := [167, 0, 4, 4, 181, 0, 203, 177]
abbrev dktX4_goOn_16 : List UInt8 := dkwX4_goOn_16 ++ []
def dkwX4_goOn_15 : List UInt8 := [153, 0, 7, 4, 167, 0, 4, 7, 181, 0, 203, 167, 0, 19, 42, 27, 184, 0, 224, 153, 0, 7, 8]
abbrev dktX4_goOn_15 : List UInt8 := dkwX4_goOn_15 ++ dktX4_goOn_16
def dkwX4_goOn_14 : List UInt8 := [180, 0, 193, 42, 180, 0, 196, 100, 7, 163, 0, 17, 42, 42, 180, 0, 193, 182, 0, 199, 184, 0, 206]
abbrev dktX4_goOn_14 : List UInt8 := dkwX4_goOn_14 ++ dktX4_goOn_15
def dkwX4_goOn_13 : List UInt8 := [96, 16, 48, 100, 181, 0, 221, 42, 89, 180, 0, 193, 4, 96, 181, 0, 193, 167, 255, 196, 42, 42]
abbrev dktX4_goOn_13 : List UInt8 := dkwX4_goOn_13 ++ dktX4_goOn_14
def dkwX4_goOn_12 : List UInt8 := [180, 0, 196, 100, 7, 162, 0, 26, 42, 16, 10, 42, 180, 0, 221, 104, 42, 42, 180, 0, 193, 182, 0, 199]
abbrev dktX4_goOn_12 : List UInt8 := dkwX4_goOn_12 ++ dktX4_goOn_13
def dkwX4_goOn_11 : List UInt8 := [181, 0, 193, 42, 42, 180, 0, 193, 182, 0, 199, 184, 0, 218, 153, 0, 52, 42, 180, 0, 193, 42]
abbrev dktX4_goOn_11 : List UInt8 := dkwX4_goOn_11 ++ dktX4_goOn_12
def dkwX4_goOn_10 : List UInt8 := [181, 0, 203, 167, 0, 141, 27, 184, 0, 218, 153, 0, 118, 42, 3, 181, 0, 221, 42, 42, 180, 0, 196]
abbrev dktX4_goOn_10 : List UInt8 := dkwX4_goOn_10 ++ dktX4_goOn_11
def dkwX4_goOn_9 : List UInt8 := [164, 0, 7, 4, 167, 0, 18, 42, 180, 0, 210, 184, 0, 214, 153, 0, 7, 6, 167, 0, 4, 5]
abbrev dktX4_goOn_9 : List UInt8 := dkwX4_goOn_9 ++ dktX4_goOn_10
def dkwX4_goOn_8 : List UInt8 := [133, 129, 181, 0, 210, 132, 2, 1, 167, 255, 216, 42, 42, 180, 0, 193, 42, 180, 0, 196, 100, 16, 8]
abbrev dktX4_goOn_8 : List UInt8 := dkwX4_goOn_8 ++ dktX4_goOn_9
def dkwX4_goOn_7 : List UInt8 := [28, 42, 180, 0, 196, 16, 8, 96, 162, 0, 27, 42, 42, 180, 0, 210, 16, 8, 121, 42, 28, 182, 0, 199]
abbrev dktX4_goOn_7 : List UInt8 := dkwX4_goOn_7 ++ dktX4_goOn_8
def dkwX4_goOn_6 : List UInt8 := [181, 0, 193, 167, 255, 232, 42, 9, 181, 0, 210, 42, 180, 0, 196, 61, 28, 42, 180, 0, 193, 162, 0, 38]
abbrev dktX4_goOn_6 : List UInt8 := dkwX4_goOn_6 ++ dktX4_goOn_7
def dkwX4_goOn_5 : List UInt8 := [153, 0, 123, 42, 42, 180, 0, 193, 182, 0, 199, 184, 0, 206, 153, 0, 16, 42, 89, 180, 0, 193, 4, 96]
abbrev dktX4_goOn_5 : List UInt8 := dkwX4_goOn_5 ++ dktX4_goOn_6
def dkwX4_goOn_4 : List UInt8 := [42, 42, 180, 0, 153, 181, 0, 196, 42, 42, 180, 0, 153, 181, 0, 193, 167, 1, 12, 27, 184, 0, 206]
abbrev dktX4_goOn_4 : List UInt8 := dkwX4_goOn_4 ++ dktX4_goOn_5
def dkwX4_goOn_3 : List UInt8 := [180, 0, 196, 4, 96, 181, 0, 193, 42, 180, 0, 196, 42, 180, 0, 153, 161, 0, 27, 42, 3, 181, 0, 203]
abbrev dktX4_goOn_3 : List UInt8 := dkwX4_goOn_3 ++ dktX4_goOn_4
def dkwX4_goOn_2 : List UInt8 := [180, 0, 196, 4, 96, 181, 0, 196, 167, 255, 209, 42, 42, 180, 0, 196, 182, 0, 199, 60, 42, 42]
abbrev dktX4_goOn_2 : List UInt8 := dkwX4_goOn_2 ++ dktX4_goOn_3
def dkwX4_goOn_1 : List UInt8 := [182, 0, 199, 16, 32, 159, 0, 16, 42, 42, 180, 0, 196, 182, 0, 199, 16, 10, 160, 0, 16, 42, 89]
abbrev dktX4_goOn_1 : List UInt8 := dkwX4_goOn_1 ++ dktX4_goOn_2
def dkwX4_goOn_0 : List UInt8 := [42, 42, 180, 0, 193, 181, 0, 196, 42, 180, 0, 196, 42, 180, 0, 153, 162, 0, 42, 42, 42, 180, 0, 196]
abbrev dktX4_goOn_0 : List UInt8 := dkwX4_goOn_0 ++ dktX4_goOn_1
theorem dksX4_goOn_0 : cX4_goOn.data.toList.drop 0 = dktX4_goOn_0 := by decide +kernel
theorem dksX4_goOn_1 : cX4_goOn.data.toList.drop 24 = dktX4_goOn_1 := dk_seg dksX4_goOn_0 24 rfl rfl
theorem dksX4_goOn_2 : cX4_goOn.data.toList.drop 47 = dktX4_goOn_2 := dk_seg dksX4_goOn_1 23 rfl rfl
theorem dksX4_goOn_3 : cX4_goOn.data.toList.drop 69 = dktX4_goOn_3 := dk_seg dksX4_goOn_2 22 rfl rfl
theorem dksX4_goOn_4 : cX4_goOn.data.toList.drop 93 = dktX4_goOn_4 := dk_seg dksX4_goOn_3 24 rfl rfl
theorem dksX4_goOn_5 : cX4_goOn.data.toList.drop 116 = dktX4_goOn_5 := dk_seg dksX4_goOn_4 23 rfl rfl
theorem dksX4_goOn_6 : cX4_goOn.data.toList.drop 140 = dktX4_goOn_6 := dk_seg dksX4_goOn_5 24 rfl rfl
theorem dksX4_goOn_7 : cX4_goOn.data.toList.drop 164 = dktX4_goOn_7 := dk_seg dksX4_goOn_6 24 rfl rfl
theorem dksX4_goOn_8 : cX4_goOn.data.toList.drop 188 = dktX4_goOn_8 := dk_seg dksX4_goOn_7 24 rfl rfl
theorem dksX4_goOn_9 : cX4_goOn.data.toList.drop 211 = dktX4_goOn_9 := dk_seg dksX4_goOn_8 23 rfl rfl
theorem dksX4_goOn_10 : cX4_goOn.data.toList.drop 233 = dktX4_goOn_10 := dk_seg dksX4_goOn_9 22 rfl rfl
theorem dksX4_goOn_11 : cX4_goOn.data.toList.drop 256 = dktX4_goOn_11 := dk_seg dksX4_goOn_10 23 rfl rfl
theorem dksX4_goOn_12 : cX4_goOn.data.toList.drop 278 = dktX4_goOn_12 := dk_seg dksX4_goOn_11 22 rfl rfl
theorem dksX4_goOn_13 : cX4_goOn.data.toList.drop 302 = dktX4_goOn_13 := dk_seg dksX4_goOn_12 24 rfl rfl
theorem dksX4_goOn_14 : cX4_goOn.data.toList.drop 324 = dktX4_goOn_14 := dk_seg dksX4_goOn_13 22 rfl rfl
theorem dksX4_goOn_15 : cX4_goOn.data.toList.drop 347 = dktX4_goOn_15 := dk_seg dksX4_goOn_14 23 rfl rfl
theorem dksX4_goOn_16 : cX4_goOn.data.toList.drop 370 = dktX4_goOn_16 := dk_seg dksX4_goOn_15 23 rfl rfl
theorem dX4_goOn_0 : decode cX4_goOn 0 = .ok (.aload_n 0, 1) := dk_42 (dk_at dksX4_goOn_0 0 rfl rfl)
theorem dX4_goOn_1 : decode cX4_goOn 1 = .ok (.aload_n 0, 1) := dk_42 (dk_at dksX4_goOn_0 1 rfl rfl)
theorem dX4_goOn_2 : decode cX4_goOn 2 = .ok (.getfield 193, 3) := dk_180 0 193 (dk_at dksX4_goOn_0 2 rfl rfl)
theorem dX4_goOn_5 : decode cX4_goOn 5 = .ok (.putfield 196, 3) := dk_181 0 196 (dk_at dksX4_goOn_0 5 rfl rfl)
theorem dX4_goOn_8 : decode cX4_goOn 8 = .ok (.aload_n 0, 1) := dk_42 (dk_at dksX4_goOn_0 8 rfl rfl)
theorem dX4_goOn_9 : decode cX4_goOn 9 = .ok (.getfield 196, 3) := dk_180 0 196 (dk_at dksX4_goOn_0 9 rfl rfl)
theorem dX4_goOn_12 : decode cX4_goOn 12 = .ok (.aload_n 0, 1) := dk_42 (dk_at dksX4_goOn_0 12 rfl rfl)
theorem dX4_goOn_13 : decode cX4_goOn 13 = .ok (.getfield 153, 3) := dk_180 0 153 (dk_at dksX4_goOn_0 13 rfl rfl)
theorem dX4_goOn_16 : decode cX4_goOn 16 = .ok (.if_icmp .ge 42, 3) := dk_162 0 42 (dk_at dksX4_goOn_0 16 rfl rfl)
theorem dX4_goOn_19 : decode cX4_goOn 19 = .ok (.aload_n 0, 1) := dk_42 (dk_at dksX4_goOn_0 19 rfl rfl)
theorem dX4_goOn_20 : decode cX4_goOn 20 = .ok (.aload_n 0, 1) := dk_42 (dk_at dksX4_goOn_0 20 rfl rfl)
theorem dX4_goOn_21 : decode cX4_goOn 21 = .ok (.getfield 196, 3) := dk_180 0 196 (dk_at dksX4_goOn_0 21 rfl rfl)
theorem dX4_goOn_24 : decode cX4_goOn 24 = .ok (.invokevirtual 199, 3) := dk_182 0 199 (dk_at dksX4_goOn_1 0 rfl rfl)
theorem dX4_goOn_27 : decode cX4_goOn 27 = .ok (.bipush 32, 2) := dk_16 32 (dk_at dksX4_goOn_1 3 rfl rfl)
theorem dX4_goOn_29 : decode cX4_goOn 29 = .ok (.if_icmp .eq 16, 3) := dk_159 0 16 (dk_at dksX4_goOn_1 5 rfl rfl)
theorem dX4_goOn_32 : decode cX4_goOn 32 = .ok (.aload_n 0, 1) := dk_42 (dk_at dksX4_goOn_1 8 rfl rfl)
theorem dX4_goOn_33 : decode cX4_goOn 33 = .ok (.aload_n 0, 1) := dk_42 (dk_at dksX4_goOn_1 9 rfl rfl)
theorem dX4_goOn_34 : decode cX4_goOn 34 = .ok (.getfield 196, 3) := dk_180 0 196 (dk_at dksX4_goOn_1 10 rfl rfl)
theorem dX4_goOn_37 : decode cX4_goOn 37 = .ok (.invokevirtual 199, 3) := dk_182 0 199 (dk_at dksX4_goOn_1 13 rfl rfl)
theorem dX4_goOn_40 : decode cX4_goOn 40 = .ok (.bipush 10, 2) := dk_16 10 (dk_at dksX4_goOn_1 16 rfl rfl)
theorem dX4_goOn_42 : decode cX4_goOn 42 = .ok (.if_icmp .ne 16, 3) := dk_160 0 16 (dk_at dksX4_goOn_1 18 rfl rfl)
theorem dX4_goOn_45 : decode cX4_goOn 45 = .ok (.aload_n 0, 1) := dk_42 (dk_at dksX4_goOn_1 21 rfl rfl)
theorem dX4_goOn_46 : decode cX4_goOn 46 = .ok (.dup, 1) := dk_89 (dk_at dksX4_goOn_1 22 rfl rfl)
theorem dX4_goOn_47 : decode cX4_goOn 47 = .ok (.getfield 196, 3) := dk_180 0 196 (dk_at dksX4_goOn_2 0 rfl rfl)
theorem dX4_goOn_50 : decode cX4_goOn 50 = .ok (.iconst 1, 1) := dk_4 (dk_at dksX4_goOn_2 3 rfl rfl)
theorem dX4_goOn_51 : decode cX4_goOn 51 = .ok (.iadd, 1) := dk_96 (dk_at dksX4_goOn_2 4 rfl rfl)
theorem dX4_goOn_52 : decode cX4_goOn 52 = .ok (.putfield 196, 3) := dk_181 0 196 (dk_at dksX4_goOn_2 5 rfl rfl)
theorem dX4_goOn_55 : decode cX4_goOn 55 = .ok (.goto (-47), 3) := dk_167 255 209 (dk_at dksX4_goOn_2 8 rfl rfl)
theorem dX4_goOn_58 : decode cX4_goOn 58 = .ok (.aload_n 0, 1) := dk_42 (dk_at dksX4_goOn_2 11 rfl rfl)
theorem dX4_goOn_59 : decode cX4_goOn 59 = .ok (.aload_n 0, 1) := dk_42 (dk_at dksX4_goOn_2 12 rfl rfl)
theorem dX4_goOn_60 : decode cX4_goOn 60 = .ok (.getfield 196, 3) := dk_180 0 196 (dk_at dksX4_goOn_2 13 rfl rfl)
theorem dX4_goOn_63 : decode cX4_goOn 63 = .ok (.invokevirtual 199, 3) := dk_182 0 199 (dk_at dksX4_goOn_2 16 rfl rfl)
theorem dX4_goOn_66 : decode cX4_goOn 66 = .ok (.istore_n 1, 1) := dk_60 (dk_at dksX4_goOn_2 19 rfl rfl)
theorem dX4_goOn_67 : decode cX4_goOn 67 = .ok (.aload_n 0, 1) := dk_42 (dk_at dksX4_goOn_2 20 rfl rfl)
theorem dX4_goOn_68 : decode cX4_goOn 68 = .ok (.aload_n 0, 1) := dk_42 (dk_at dksX4_goOn_2 21 rfl rfl)
theorem dX4_goOn_69 : decode cX4_goOn 69 = .ok (.getfield 196, 3) := dk_180 0 196 (dk_at dksX4_goOn_3 0 rfl rfl)
theorem dX4_goOn_72 : decode cX4_goOn 72 = .ok (.iconst 1, 1) := dk_4 (dk_at dksX4_goOn_3 3 rfl rfl)
theorem dX4_goOn_73 : decode cX4_goOn 73 = .ok (.iadd, 1) := dk_96 (dk_at dksX4_goOn_3 4 rfl rfl)
theorem dX4_goOn_74 : decode cX4_goOn 74 = .ok (.putfield 193, 3) := dk_181 0 193 (dk_at dksX4_goOn_3 5 rfl rfl)
theorem dX4_goOn_77 : decode cX4_goOn 77 = .ok (.aload_n 0, 1) := dk_42 (dk_at dksX4_goOn_3 8 rfl rfl)
theorem dX4_goOn_78 : decode cX4_goOn 78 = .ok (.getfield 196, 3) := dk_180 0 196 (dk_at dksX4_goOn_3 9 rfl rfl)
theorem dX4_goOn_81 : decode cX4_goOn 81 = .ok (.aload_n 0, 1) := dk_42 (dk_at dksX4_goOn_3 12 rfl rfl)
theorem dX4_goOn_82 : decode cX4_goOn 82 = .ok (.getfield 153, 3) := dk_180 0 153 (dk_at dksX4_goOn_3 13 rfl rfl)
theorem dX4_goOn_85 : decode cX4_goOn 85 = .ok (.if_icmp .lt 27, 3) := dk_161 0 27 (dk_at dksX4_goOn_3 16 rfl rfl)
theorem dX4_goOn_88 : decode cX4_goOn 88 = .ok (.aload_n 0, 1) := dk_42 (dk_at dksX4_goOn_3 19 rfl rfl)
theorem dX4_goOn_89 : decode cX4_goOn 89 = .ok (.iconst 0, 1) := dk_3 (dk_at dksX4_goOn_3 20 rfl rfl)
theorem dX4_goOn_90 : decode cX4_goOn 90 = .ok (.putfield 203, 3) := dk_181 0 203 (dk_at dksX4_goOn_3 21 rfl rfl)
theorem dX4_goOn_93 : decode cX4_goOn 93 = .ok (.aload_n 0, 1) := dk_42 (dk_at dksX4_goOn_4 0 rfl rfl)
theorem dX4_goOn_94 : decode cX4_goOn 94 = .ok (.aload_n 0, 1) := dk_42 (dk_at dksX4_goOn_4 1 rfl rfl)
theorem dX4_goOn_95 : decode cX4_goOn 95 = .ok (.getfield 153, 3) := dk_180 0 153 (dk_at dksX4_goOn_4 2 rfl rfl)
theorem dX4_goOn_98 : decode cX4_goOn 98 = .ok (.putfield 196, 3) := dk_181 0 196 (dk_at dksX4_goOn_4 5 rfl rfl)
theorem dX4_goOn_101 : decode cX4_goOn 101 = .ok (.aload_n 0, 1) := dk_42 (dk_at dksX4_goOn_4 8 rfl rfl)
theorem dX4_goOn_102 : decode cX4_goOn 102 = .ok (.aload_n 0, 1) := dk_42 (dk_at dksX4_goOn_4 9 rfl rfl)
theorem dX4_goOn_103 : decode cX4_goOn 103 = .ok (.getfield 153, 3) := dk_180 0 153 (dk_at dksX4_goOn_4 10 rfl rfl)
theorem dX4_goOn_106 : decode cX4_goOn 106 = .ok (.putfield 193, 3) := dk_181 0 193 (dk_at dksX4_goOn_4 13 rfl rfl)
theorem dX4_goOn_109 : decode cX4_goOn 109 = .ok (.goto 268, 3) := dk_167 1 12 (dk_at dksX4_goOn_4 16 rfl rfl)
theorem dX4_goOn_112 : decode cX4_goOn 112 = .ok (.iload_n 1, 1) := dk_27 (dk_at dksX4_goOn_4 19 rfl rfl)
theorem dX4_goOn_113 : decode cX4_goOn 113 = .ok (.invokestatic 206, 3) := dk_184 0 206 (dk_at dksX4_goOn_4 20 rfl rfl)
theorem dX4_goOn_116 : decode cX4_goOn 116 = .ok (.ifCond .eq 123, 3) := dk_153 0 123 (dk_at dksX4_goOn_5 0 rfl rfl)
theorem dX4_goOn_119 : decode cX4_goOn 119 = .ok (.aload_n 0, 1) := dk_42 (dk_at dksX4_goOn_5 3 rfl rfl)
theorem dX4_goOn_120 : decode cX4_goOn 120 = .ok (.aload_n 0, 1) := dk_42 (dk_at dksX4_goOn_5 4 rfl rfl)
theorem dX4_goOn_121 : decode cX4_goOn 121 = .ok (.getfield 193, 3) := dk_180 0 193 (dk_at dksX4_goOn_5 5 rfl rfl)
theorem dX4_goOn_124 : decode cX4_goOn 124 = .ok (.invokevirtual 199, 3) := dk_182 0 199 (dk_at dksX4_goOn_5 8 rfl rfl)
theorem dX4_goOn_127 : decode cX4_goOn 127 = .ok (.invokestatic 206, 3) := dk_184 0 206 (dk_at dksX4_goOn_5 11 rfl rfl)
theorem dX4_goOn_130 : decode cX4_goOn 130 = .ok (.ifCond .eq 16, 3) := dk_153 0 16 (dk_at dksX4_goOn_5 14 rfl rfl)
theorem dX4_goOn_133 : decode cX4_goOn 133 = .ok (.aload_n 0, 1) := dk_42 (dk_at dksX4_goOn_5 17 rfl rfl)
theorem dX4_goOn_134 : decode cX4_goOn 134 = .ok (.dup, 1) := dk_89 (dk_at dksX4_goOn_5 18 rfl rfl)
theorem dX4_goOn_135 : decode cX4_goOn 135 = .ok (.getfield 193, 3) := dk_180 0 193 (dk_at dksX4_goOn_5 19 rfl rfl)
theorem dX4_goOn_138 : decode cX4_goOn 138 = .ok (.iconst 1, 1) := dk_4 (dk_at dksX4_goOn_5 22 rfl rfl)
theorem dX4_goOn_139 : decode cX4_goOn 139 = .ok (.iadd, 1) := dk_96 (dk_at dksX4_goOn_5 23 rfl rfl)
theorem dX4_goOn_140 : decode cX4_goOn 140 = .ok (.putfield 193, 3) := dk_181 0 193 (dk_at dksX4_goOn_6 0 rfl rfl)
theorem dX4_goOn_143 : decode cX4_goOn 143 = .ok (.goto (-24), 3) := dk_167 255 232 (dk_at dksX4_goOn_6 3 rfl rfl)
theorem dX4_goOn_146 : decode cX4_goOn 146 = .ok (.aload_n 0, 1) := dk_42 (dk_at dksX4_goOn_6 6 rfl rfl)
theorem dX4_goOn_147 : decode cX4_goOn 147 = .ok (.lconst 0, 1) := dk_9 (dk_at dksX4_goOn_6 7 rfl rfl)
theorem dX4_goOn_148 : decode cX4_goOn 148 = .ok (.putfield 210, 3) := dk_181 0 210 (dk_at dksX4_goOn_6 8 rfl rfl)
theorem dX4_goOn_151 : decode cX4_goOn 151 = .ok (.aload_n 0, 1) := dk_42 (dk_at dksX4_goOn_6 11 rfl rfl)
theorem dX4_goOn_152 : decode cX4_goOn 152 = .ok (.getfield 196, 3) := dk_180 0 196 (dk_at dksX4_goOn_6 12 rfl rfl)
theorem dX4_goOn_155 : decode cX4_goOn 155 = .ok (.istore_n 2, 1) := dk_61 (dk_at dksX4_goOn_6 15 rfl rfl)
theorem dX4_goOn_156 : decode cX4_goOn 156 = .ok (.iload_n 2, 1) := dk_28 (dk_at dksX4_goOn_6 16 rfl rfl)
theorem dX4_goOn_157 : decode cX4_goOn 157 = .ok (.aload_n 0, 1) := dk_42 (dk_at dksX4_goOn_6 17 rfl rfl)
theorem dX4_goOn_158 : decode cX4_goOn 158 = .ok (.getfield 193, 3) := dk_180 0 193 (dk_at dksX4_goOn_6 18 rfl rfl)
theorem dX4_goOn_161 : decode cX4_goOn 161 = .ok (.if_icmp .ge 38, 3) := dk_162 0 38 (dk_at dksX4_goOn_6 21 rfl rfl)
theorem dX4_goOn_164 : decode cX4_goOn 164 = .ok (.iload_n 2, 1) := dk_28 (dk_at dksX4_goOn_7 0 rfl rfl)
theorem dX4_goOn_165 : decode cX4_goOn 165 = .ok (.aload_n 0, 1) := dk_42 (dk_at dksX4_goOn_7 1 rfl rfl)
theorem dX4_goOn_166 : decode cX4_goOn 166 = .ok (.getfield 196, 3) := dk_180 0 196 (dk_at dksX4_goOn_7 2 rfl rfl)
theorem dX4_goOn_169 : decode cX4_goOn 169 = .ok (.bipush 8, 2) := dk_16 8 (dk_at dksX4_goOn_7 5 rfl rfl)
theorem dX4_goOn_171 : decode cX4_goOn 171 = .ok (.iadd, 1) := dk_96 (dk_at dksX4_goOn_7 7 rfl rfl)
theorem dX4_goOn_172 : decode cX4_goOn 172 = .ok (.if_icmp .ge 27, 3) := dk_162 0 27 (dk_at dksX4_goOn_7 8 rfl rfl)
theorem dX4_goOn_175 : decode cX4_goOn 175 = .ok (.aload_n 0, 1) := dk_42 (dk_at dksX4_goOn_7 11 rfl rfl)
theorem dX4_goOn_176 : decode cX4_goOn 176 = .ok (.aload_n 0, 1) := dk_42 (dk_at dksX4_goOn_7 12 rfl rfl)
theorem dX4_goOn_177 : decode cX4_goOn 177 = .ok (.getfield 210, 3) := dk_180 0 210 (dk_at dksX4_goOn_7 13 rfl rfl)
theorem dX4_goOn_180 : decode cX4_goOn 180 = .ok (.bipush 8, 2) := dk_16 8 (dk_at dksX4_goOn_7 16 rfl rfl)
theorem dX4_goOn_182 : decode cX4_goOn 182 = .ok (.lshl, 1) := dk_121 (dk_at dksX4_goOn_7 18 rfl rfl)
theorem dX4_goOn_183 : decode cX4_goOn 183 = .ok (.aload_n 0, 1) := dk_42 (dk_at dksX4_goOn_7 19 rfl rfl)
theorem dX4_goOn_184 : decode cX4_goOn 184 = .ok (.iload_n 2, 1) := dk_28 (dk_at dksX4_goOn_7 20 rfl rfl)
theorem dX4_goOn_185 : decode cX4_goOn 185 = .ok (.invokevirtual 199, 3) := dk_182 0 199 (dk_at dksX4_goOn_7 21 rfl rfl)
theorem dX4_goOn_188 : decode cX4_goOn 188 = .ok (.i2l, 1) := dk_133 (dk_at dksX4_goOn_8 0 rfl rfl)
theorem dX4_goOn_189 : decode cX4_goOn 189 = .ok (.lor, 1) := dk_129 (dk_at dksX4_goOn_8 1 rfl rfl)
theorem dX4_goOn_190 : decode cX4_goOn 190 = .ok (.putfield 210, 3) := dk_181 0 210 (dk_at dksX4_goOn_8 2 rfl rfl)
theorem dX4_goOn_193 : decode cX4_goOn 193 = .ok (.iinc 2 1, 3) := dk_132 2 1 (dk_at dksX4_goOn_8 5 rfl rfl)
theorem dX4_goOn_196 : decode cX4_goOn 196 = .ok (.goto (-40), 3) := dk_167 255 216 (dk_at dksX4_goOn_8 8 rfl rfl)
theorem dX4_goOn_199 : decode cX4_goOn 199 = .ok (.aload_n 0, 1) := dk_42 (dk_at dksX4_goOn_8 11 rfl rfl)
theorem dX4_goOn_200 : decode cX4_goOn 200 = .ok (.aload_n 0, 1) := dk_42 (dk_at dksX4_goOn_8 12 rfl rfl)
theorem dX4_goOn_201 : decode cX4_goOn 201 = .ok (.getfield 193, 3) := dk_180 0 193 (dk_at dksX4_goOn_8 13 rfl rfl)
theorem dX4_goOn_204 : decode cX4_goOn 204 = .ok (.aload_n 0, 1) := dk_42 (dk_at dksX4_goOn_8 16 rfl rfl)
theorem dX4_goOn_205 : decode cX4_goOn 205 = .ok (.getfield 196, 3) := dk_180 0 196 (dk_at dksX4_goOn_8 17 rfl rfl)
theorem dX4_goOn_208 : decode cX4_goOn 208 = .ok (.isub, 1) := dk_100 (dk_at dksX4_goOn_8 20 rfl rfl)
theorem dX4_goOn_209 : decode cX4_goOn 209 = .ok (.bipush 8, 2) := dk_16 8 (dk_at dksX4_goOn_8 21 rfl rfl)
theorem dX4_goOn_211 : decode cX4_goOn 211 = .ok (.if_icmp .le 7, 3) := dk_164 0 7 (dk_at dksX4_goOn_9 0 rfl rfl)
theorem dX4_goOn_214 : decode cX4_goOn 214 = .ok (.iconst 1, 1) := dk_4 (dk_at dksX4_goOn_9 3 rfl rfl)
theorem dX4_goOn_215 : decode cX4_goOn 215 = .ok (.goto 18, 3) := dk_167 0 18 (dk_at dksX4_goOn_9 4 rfl rfl)
theorem dX4_goOn_218 : decode cX4_goOn 218 = .ok (.aload_n 0, 1) := dk_42 (dk_at dksX4_goOn_9 7 rfl rfl)
theorem dX4_goOn_219 : decode cX4_goOn 219 = .ok (.getfield 210, 3) := dk_180 0 210 (dk_at dksX4_goOn_9 8 rfl rfl)
theorem dX4_goOn_222 : decode cX4_goOn 222 = .ok (.invokestatic 214, 3) := dk_184 0 214 (dk_at dksX4_goOn_9 11 rfl rfl)
theorem dX4_goOn_225 : decode cX4_goOn 225 = .ok (.ifCond .eq 7, 3) := dk_153 0 7 (dk_at dksX4_goOn_9 14 rfl rfl)
theorem dX4_goOn_228 : decode cX4_goOn 228 = .ok (.iconst 3, 1) := dk_6 (dk_at dksX4_goOn_9 17 rfl rfl)
theorem dX4_goOn_229 : decode cX4_goOn 229 = .ok (.goto 4, 3) := dk_167 0 4 (dk_at dksX4_goOn_9 18 rfl rfl)
theorem dX4_goOn_232 : decode cX4_goOn 232 = .ok (.iconst 2, 1) := dk_5 (dk_at dksX4_goOn_9 21 rfl rfl)
theorem dX4_goOn_233 : decode cX4_goOn 233 = .ok (.putfield 203, 3) := dk_181 0 203 (dk_at dksX4_goOn_10 0 rfl rfl)
theorem dX4_goOn_236 : decode cX4_goOn 236 = .ok (.goto 141, 3) := dk_167 0 141 (dk_at dksX4_goOn_10 3 rfl rfl)
theorem dX4_goOn_239 : decode cX4_goOn 239 = .ok (.iload_n 1, 1) := dk_27 (dk_at dksX4_goOn_10 6 rfl rfl)
theorem dX4_goOn_240 : decode cX4_goOn 240 = .ok (.invokestatic 218, 3) := dk_184 0 218 (dk_at dksX4_goOn_10 7 rfl rfl)
theorem dX4_goOn_243 : decode cX4_goOn 243 = .ok (.ifCond .eq 118, 3) := dk_153 0 118 (dk_at dksX4_goOn_10 10 rfl rfl)
theorem dX4_goOn_246 : decode cX4_goOn 246 = .ok (.aload_n 0, 1) := dk_42 (dk_at dksX4_goOn_10 13 rfl rfl)
theorem dX4_goOn_247 : decode cX4_goOn 247 = .ok (.iconst 0, 1) := dk_3 (dk_at dksX4_goOn_10 14 rfl rfl)
theorem dX4_goOn_248 : decode cX4_goOn 248 = .ok (.putfield 221, 3) := dk_181 0 221 (dk_at dksX4_goOn_10 15 rfl rfl)
theorem dX4_goOn_251 : decode cX4_goOn 251 = .ok (.aload_n 0, 1) := dk_42 (dk_at dksX4_goOn_10 18 rfl rfl)
theorem dX4_goOn_252 : decode cX4_goOn 252 = .ok (.aload_n 0, 1) := dk_42 (dk_at dksX4_goOn_10 19 rfl rfl)
theorem dX4_goOn_253 : decode cX4_goOn 253 = .ok (.getfield 196, 3) := dk_180 0 196 (dk_at dksX4_goOn_10 20 rfl rfl)
theorem dX4_goOn_256 : decode cX4_goOn 256 = .ok (.putfield 193, 3) := dk_181 0 193 (dk_at dksX4_goOn_11 0 rfl rfl)
theorem dX4_goOn_259 : decode cX4_goOn 259 = .ok (.aload_n 0, 1) := dk_42 (dk_at dksX4_goOn_11 3 rfl rfl)
theorem dX4_goOn_260 : decode cX4_goOn 260 = .ok (.aload_n 0, 1) := dk_42 (dk_at dksX4_goOn_11 4 rfl rfl)
theorem dX4_goOn_261 : decode cX4_goOn 261 = .ok (.getfield 193, 3) := dk_180 0 193 (dk_at dksX4_goOn_11 5 rfl rfl)
theorem dX4_goOn_264 : decode cX4_goOn 264 = .ok (.invokevirtual 199, 3) := dk_182 0 199 (dk_at dksX4_goOn_11 8 rfl rfl)
theorem dX4_goOn_267 : decode cX4_goOn 267 = .ok (.invokestatic 218, 3) := dk_184 0 218 (dk_at dksX4_goOn_11 11 rfl rfl)
theorem dX4_goOn_270 : decode cX4_goOn 270 = .ok (.ifCond .eq 52, 3) := dk_153 0 52 (dk_at dksX4_goOn_11 14 rfl rfl)
theorem dX4_goOn_273 : decode cX4_goOn 273 = .ok (.aload_n 0, 1) := dk_42 (dk_at dksX4_goOn_11 17 rfl rfl)
theorem dX4_goOn_274 : decode cX4_goOn 274 = .ok (.getfield 193, 3) := dk_180 0 193 (dk_at dksX4_goOn_11 18 rfl rfl)
theorem dX4_goOn_277 : decode cX4_goOn 277 = .ok (.aload_n 0, 1) := dk_42 (dk_at dksX4_goOn_11 21 rfl rfl)
theorem dX4_goOn_278 : decode cX4_goOn 278 = .ok (.getfield 196, 3) := dk_180 0 196 (dk_at dksX4_goOn_12 0 rfl rfl)
theorem dX4_goOn_281 : decode cX4_goOn 281 = .ok (.isub, 1) := dk_100 (dk_at dksX4_goOn_12 3 rfl rfl)
theorem dX4_goOn_282 : decode cX4_goOn 282 = .ok (.iconst 4, 1) := dk_7 (dk_at dksX4_goOn_12 4 rfl rfl)
theorem dX4_goOn_283 : decode cX4_goOn 283 = .ok (.if_icmp .ge 26, 3) := dk_162 0 26 (dk_at dksX4_goOn_12 5 rfl rfl)
theorem dX4_goOn_286 : decode cX4_goOn 286 = .ok (.aload_n 0, 1) := dk_42 (dk_at dksX4_goOn_12 8 rfl rfl)
theorem dX4_goOn_287 : decode cX4_goOn 287 = .ok (.bipush 10, 2) := dk_16 10 (dk_at dksX4_goOn_12 9 rfl rfl)
theorem dX4_goOn_289 : decode cX4_goOn 289 = .ok (.aload_n 0, 1) := dk_42 (dk_at dksX4_goOn_12 11 rfl rfl)
theorem dX4_goOn_290 : decode cX4_goOn 290 = .ok (.getfield 221, 3) := dk_180 0 221 (dk_at dksX4_goOn_12 12 rfl rfl)
theorem dX4_goOn_293 : decode cX4_goOn 293 = .ok (.imul, 1) := dk_104 (dk_at dksX4_goOn_12 15 rfl rfl)
theorem dX4_goOn_294 : decode cX4_goOn 294 = .ok (.aload_n 0, 1) := dk_42 (dk_at dksX4_goOn_12 16 rfl rfl)
theorem dX4_goOn_295 : decode cX4_goOn 295 = .ok (.aload_n 0, 1) := dk_42 (dk_at dksX4_goOn_12 17 rfl rfl)
theorem dX4_goOn_296 : decode cX4_goOn 296 = .ok (.getfield 193, 3) := dk_180 0 193 (dk_at dksX4_goOn_12 18 rfl rfl)
theorem dX4_goOn_299 : decode cX4_goOn 299 = .ok (.invokevirtual 199, 3) := dk_182 0 199 (dk_at dksX4_goOn_12 21 rfl rfl)
theorem dX4_goOn_302 : decode cX4_goOn 302 = .ok (.iadd, 1) := dk_96 (dk_at dksX4_goOn_13 0 rfl rfl)
theorem dX4_goOn_303 : decode cX4_goOn 303 = .ok (.bipush 48, 2) := dk_16 48 (dk_at dksX4_goOn_13 1 rfl rfl)
theorem dX4_goOn_305 : decode cX4_goOn 305 = .ok (.isub, 1) := dk_100 (dk_at dksX4_goOn_13 3 rfl rfl)
theorem dX4_goOn_306 : decode cX4_goOn 306 = .ok (.putfield 221, 3) := dk_181 0 221 (dk_at dksX4_goOn_13 4 rfl rfl)
theorem dX4_goOn_309 : decode cX4_goOn 309 = .ok (.aload_n 0, 1) := dk_42 (dk_at dksX4_goOn_13 7 rfl rfl)
theorem dX4_goOn_310 : decode cX4_goOn 310 = .ok (.dup, 1) := dk_89 (dk_at dksX4_goOn_13 8 rfl rfl)
theorem dX4_goOn_311 : decode cX4_goOn 311 = .ok (.getfield 193, 3) := dk_180 0 193 (dk_at dksX4_goOn_13 9 rfl rfl)
theorem dX4_goOn_314 : decode cX4_goOn 314 = .ok (.iconst 1, 1) := dk_4 (dk_at dksX4_goOn_13 12 rfl rfl)
theorem dX4_goOn_315 : decode cX4_goOn 315 = .ok (.iadd, 1) := dk_96 (dk_at dksX4_goOn_13 13 rfl rfl)
theorem dX4_goOn_316 : decode cX4_goOn 316 = .ok (.putfield 193, 3) := dk_181 0 193 (dk_at dksX4_goOn_13 14 rfl rfl)
theorem dX4_goOn_319 : decode cX4_goOn 319 = .ok (.goto (-60), 3) := dk_167 255 196 (dk_at dksX4_goOn_13 17 rfl rfl)
theorem dX4_goOn_322 : decode cX4_goOn 322 = .ok (.aload_n 0, 1) := dk_42 (dk_at dksX4_goOn_13 20 rfl rfl)
theorem dX4_goOn_323 : decode cX4_goOn 323 = .ok (.aload_n 0, 1) := dk_42 (dk_at dksX4_goOn_13 21 rfl rfl)
theorem dX4_goOn_324 : decode cX4_goOn 324 = .ok (.getfield 193, 3) := dk_180 0 193 (dk_at dksX4_goOn_14 0 rfl rfl)
theorem dX4_goOn_327 : decode cX4_goOn 327 = .ok (.aload_n 0, 1) := dk_42 (dk_at dksX4_goOn_14 3 rfl rfl)
theorem dX4_goOn_328 : decode cX4_goOn 328 = .ok (.getfield 196, 3) := dk_180 0 196 (dk_at dksX4_goOn_14 4 rfl rfl)
theorem dX4_goOn_331 : decode cX4_goOn 331 = .ok (.isub, 1) := dk_100 (dk_at dksX4_goOn_14 7 rfl rfl)
theorem dX4_goOn_332 : decode cX4_goOn 332 = .ok (.iconst 4, 1) := dk_7 (dk_at dksX4_goOn_14 8 rfl rfl)
theorem dX4_goOn_333 : decode cX4_goOn 333 = .ok (.if_icmp .gt 17, 3) := dk_163 0 17 (dk_at dksX4_goOn_14 9 rfl rfl)
theorem dX4_goOn_336 : decode cX4_goOn 336 = .ok (.aload_n 0, 1) := dk_42 (dk_at dksX4_goOn_14 12 rfl rfl)
theorem dX4_goOn_337 : decode cX4_goOn 337 = .ok (.aload_n 0, 1) := dk_42 (dk_at dksX4_goOn_14 13 rfl rfl)
theorem dX4_goOn_338 : decode cX4_goOn 338 = .ok (.getfield 193, 3) := dk_180 0 193 (dk_at dksX4_goOn_14 14 rfl rfl)
theorem dX4_goOn_341 : decode cX4_goOn 341 = .ok (.invokevirtual 199, 3) := dk_182 0 199 (dk_at dksX4_goOn_14 17 rfl rfl)
theorem dX4_goOn_344 : decode cX4_goOn 344 = .ok (.invokestatic 206, 3) := dk_184 0 206 (dk_at dksX4_goOn_14 20 rfl rfl)
theorem dX4_goOn_347 : decode cX4_goOn 347 = .ok (.ifCond .eq 7, 3) := dk_153 0 7 (dk_at dksX4_goOn_15 0 rfl rfl)
theorem dX4_goOn_350 : decode cX4_goOn 350 = .ok (.iconst 1, 1) := dk_4 (dk_at dksX4_goOn_15 3 rfl rfl)
theorem dX4_goOn_351 : decode cX4_goOn 351 = .ok (.goto 4, 3) := dk_167 0 4 (dk_at dksX4_goOn_15 4 rfl rfl)
theorem dX4_goOn_354 : decode cX4_goOn 354 = .ok (.iconst 4, 1) := dk_7 (dk_at dksX4_goOn_15 7 rfl rfl)
theorem dX4_goOn_355 : decode cX4_goOn 355 = .ok (.putfield 203, 3) := dk_181 0 203 (dk_at dksX4_goOn_15 8 rfl rfl)
theorem dX4_goOn_358 : decode cX4_goOn 358 = .ok (.goto 19, 3) := dk_167 0 19 (dk_at dksX4_goOn_15 11 rfl rfl)
theorem dX4_goOn_361 : decode cX4_goOn 361 = .ok (.aload_n 0, 1) := dk_42 (dk_at dksX4_goOn_15 14 rfl rfl)
theorem dX4_goOn_362 : decode cX4_goOn 362 = .ok (.iload_n 1, 1) := dk_27 (dk_at dksX4_goOn_15 15 rfl rfl)
theorem dX4_goOn_363 : decode cX4_goOn 363 = .ok (.invokestatic 224, 3) := dk_184 0 224 (dk_at dksX4_goOn_15 16 rfl rfl)
theorem dX4_goOn_366 : decode cX4_goOn 366 = .ok (.ifCond .eq 7, 3) := dk_153 0 7 (dk_at dksX4_goOn_15 19 rfl rfl)
theorem dX4_goOn_369 : decode cX4_goOn 369 = .ok (.iconst 5, 1) := dk_8 (dk_at dksX4_goOn_15 22 rfl rfl)
theorem dX4_goOn_370 : decode cX4_goOn 370 = .ok (.goto 4, 3) := dk_167 0 4 (dk_at dksX4_goOn_16 0 rfl rfl)
theorem dX4_goOn_373 : decode cX4_goOn 373 = .ok (.iconst 1, 1) := dk_4 (dk_at dksX4_goOn_16 3 rfl rfl)
theorem dX4_goOn_374 : decode cX4_goOn 374 = .ok (.putfield 203, 3) := dk_181 0 203 (dk_at dksX4_goOn_16 4 rfl rfl)
theorem dX4_goOn_377 : decode cX4_goOn 377 = .ok (.return_, 1) := dk_177 (dk_at dksX4_goOn_16 7 rfl rfl)
abbrev cX4_sign : ByteArray := prog_27_method_2_code
def yX4_sign : MethodName := ⟨RX4, "sign", "(I)I"⟩
def dkwX4_sign_0 : List UInt8 := [27, 42, 180, 0, 153, 162, 0, 16, 42, 180, 0, 13, 27, 51, 17, 0, 255, 126, 167, 0, 4, 3, 172]
abbrev dktX4_sign_0 : List UInt8 := dkwX4_sign_0 ++ []
theorem dksX4_sign_0 : cX4_sign.data.toList.drop 0 = dktX4_sign_0 := by decide +kernel
theorem dX4_sign_0 : decode cX4_sign 0 = .ok (.iload_n 1, 1) := dk_27 (dk_at dksX4_sign_0 0 rfl rfl)
theorem dX4_sign_1 : decode cX4_sign 1 = .ok (.aload_n 0, 1) := dk_42 (dk_at dksX4_sign_0 1 rfl rfl)
theorem dX4_sign_2 : decode cX4_sign 2 = .ok (.getfield 153, 3) := dk_180 0 153 (dk_at dksX4_sign_0 2 rfl rfl)
theorem dX4_sign_5 : decode cX4_sign 5 = .ok (.if_icmp .ge 16, 3) := dk_162 0 16 (dk_at dksX4_sign_0 5 rfl rfl)
theorem dX4_sign_8 : decode cX4_sign 8 = .ok (.aload_n 0, 1) := dk_42 (dk_at dksX4_sign_0 8 rfl rfl)
theorem dX4_sign_9 : decode cX4_sign 9 = .ok (.getfield 13, 3) := dk_180 0 13 (dk_at dksX4_sign_0 9 rfl rfl)
theorem dX4_sign_12 : decode cX4_sign 12 = .ok (.iload_n 1, 1) := dk_27 (dk_at dksX4_sign_0 12 rfl rfl)
theorem dX4_sign_13 : decode cX4_sign 13 = .ok (.baload, 1) := dk_51 (dk_at dksX4_sign_0 13 rfl rfl)
theorem dX4_sign_14 : decode cX4_sign 14 = .ok (.sipush 255, 3) := dk_17 0 255 (dk_at dksX4_sign_0 14 rfl rfl)
theorem dX4_sign_17 : decode cX4_sign 17 = .ok (.iand, 1) := dk_126 (dk_at dksX4_sign_0 17 rfl rfl)
theorem dX4_sign_18 : decode cX4_sign 18 = .ok (.goto 4, 3) := dk_167 0 4 (dk_at dksX4_sign_0 18 rfl rfl)
theorem dX4_sign_21 : decode cX4_sign 21 = .ok (.iconst 0, 1) := dk_3 (dk_at dksX4_sign_0 21 rfl rfl)
theorem dX4_sign_22 : decode cX4_sign 22 = .ok (.ireturn, 1) := dk_172 (dk_at dksX4_sign_0 22 rfl rfl)
abbrev cX4_isLetter : ByteArray := prog_27_method_3_code
def yX4_isLetter : MethodName := ⟨RX4, "isLetter", "(I)Z"⟩
def dkwX4_isLetter_0 : List UInt8 := [26, 16, 97, 161, 0, 13, 26, 16, 122, 163, 0, 7, 4, 167, 0, 4, 3, 172]
abbrev dktX4_isLetter_0 : List UInt8 := dkwX4_isLetter_0 ++ []
theorem dksX4_isLetter_0 : cX4_isLetter.data.toList.drop 0 = dktX4_isLetter_0 := by decide +kernel
theorem dX4_isLetter_0 : decode cX4_isLetter 0 = .ok (.iload_n 0, 1) := dk_26 (dk_at dksX4_isLetter_0 0 rfl rfl)
theorem dX4_isLetter_1 : decode cX4_isLetter 1 = .ok (.bipush 97, 2) := dk_16 97 (dk_at dksX4_isLetter_0 1 rfl rfl)
theorem dX4_isLetter_3 : decode cX4_isLetter 3 = .ok (.if_icmp .lt 13, 3) := dk_161 0 13 (dk_at dksX4_isLetter_0 3 rfl rfl)
theorem dX4_isLetter_6 : decode cX4_isLetter 6 = .ok (.iload_n 0, 1) := dk_26 (dk_at dksX4_isLetter_0 6 rfl rfl)
theorem dX4_isLetter_7 : decode cX4_isLetter 7 = .ok (.bipush 122, 2) := dk_16 122 (dk_at dksX4_isLetter_0 7 rfl rfl)
theorem dX4_isLetter_9 : decode cX4_isLetter 9 = .ok (.if_icmp .gt 7, 3) := dk_163 0 7 (dk_at dksX4_isLetter_0 9 rfl rfl)
theorem dX4_isLetter_12 : decode cX4_isLetter 12 = .ok (.iconst 1, 1) := dk_4 (dk_at dksX4_isLetter_0 12 rfl rfl)
theorem dX4_isLetter_13 : decode cX4_isLetter 13 = .ok (.goto 4, 3) := dk_167 0 4 (dk_at dksX4_isLetter_0 13 rfl rfl)
theorem dX4_isLetter_16 : decode cX4_isLetter 16 = .ok (.iconst 0, 1) := dk_3 (dk_at dksX4_isLetter_0 16 rfl rfl)
theorem dX4_isLetter_17 : decode cX4_isLetter 17 = .ok (.ireturn, 1) := dk_172 (dk_at dksX4_isLetter_0 17 rfl rfl)
abbrev cX4_isKept : ByteArray := prog_27_method_7_code
def yX4_isKept : MethodName := ⟨RX4, "isKept", "(J)Z"⟩
def dkwX4_isKept_6 : List UInt8 := [154, 0, 7, 4, 167, 0, 4, 3, 172]
abbrev dktX4_isKept_6 : List UInt8 := dkwX4_isKept_6 ++ []
def dkwX4_isKept_5 : List UInt8 := [153, 0, 27, 30, 20, 0, 187, 148, 153, 0, 19, 30, 20, 0, 189, 148, 153, 0, 11, 30, 20, 0, 191, 148]
abbrev dktX4_isKept_5 : List UInt8 := dkwX4_isKept_5 ++ dktX4_isKept_6
def dkwX4_isKept_4 : List UInt8 := [153, 0, 51, 30, 20, 0, 181, 148, 153, 0, 43, 30, 20, 0, 183, 148, 153, 0, 35, 30, 20, 0, 185, 148]
abbrev dktX4_isKept_4 : List UInt8 := dkwX4_isKept_4 ++ dktX4_isKept_5
def dkwX4_isKept_3 : List UInt8 := [4, 167, 0, 4, 3, 61, 28, 154, 0, 67, 30, 20, 0, 177, 148, 153, 0, 59, 30, 20, 0, 179, 148]
abbrev dktX4_isKept_3 : List UInt8 := dkwX4_isKept_3 ++ dktX4_isKept_4
def dkwX4_isKept_2 : List UInt8 := [30, 20, 0, 171, 148, 153, 0, 19, 30, 20, 0, 173, 148, 153, 0, 11, 30, 20, 0, 175, 148, 154, 0, 7]
abbrev dktX4_isKept_2 : List UInt8 := dkwX4_isKept_2 ++ dktX4_isKept_3
def dkwX4_isKept_1 : List UInt8 := [30, 20, 0, 165, 148, 153, 0, 43, 30, 20, 0, 167, 148, 153, 0, 35, 30, 20, 0, 169, 148, 153, 0, 27]
abbrev dktX4_isKept_1 : List UInt8 := dkwX4_isKept_1 ++ dktX4_isKept_2
def dkwX4_isKept_0 : List UInt8 := [30, 20, 0, 159, 148, 153, 0, 67, 30, 20, 0, 161, 148, 153, 0, 59, 30, 20, 0, 163, 148, 153, 0, 51]
abbrev dktX4_isKept_0 : List UInt8 := dkwX4_isKept_0 ++ dktX4_isKept_1
theorem dksX4_isKept_0 : cX4_isKept.data.toList.drop 0 = dktX4_isKept_0 := by decide +kernel
theorem dksX4_isKept_1 : cX4_isKept.data.toList.drop 24 = dktX4_isKept_1 := dk_seg dksX4_isKept_0 24 rfl rfl
theorem dksX4_isKept_2 : cX4_isKept.data.toList.drop 48 = dktX4_isKept_2 := dk_seg dksX4_isKept_1 24 rfl rfl
theorem dksX4_isKept_3 : cX4_isKept.data.toList.drop 72 = dktX4_isKept_3 := dk_seg dksX4_isKept_2 24 rfl rfl
theorem dksX4_isKept_4 : cX4_isKept.data.toList.drop 95 = dktX4_isKept_4 := dk_seg dksX4_isKept_3 23 rfl rfl
theorem dksX4_isKept_5 : cX4_isKept.data.toList.drop 119 = dktX4_isKept_5 := dk_seg dksX4_isKept_4 24 rfl rfl
theorem dksX4_isKept_6 : cX4_isKept.data.toList.drop 143 = dktX4_isKept_6 := dk_seg dksX4_isKept_5 24 rfl rfl
theorem dX4_isKept_0 : decode cX4_isKept 0 = .ok (.lload_n 0, 1) := dk_30 (dk_at dksX4_isKept_0 0 rfl rfl)
theorem dX4_isKept_1 : decode cX4_isKept 1 = .ok (.ldc2_w 159, 3) := dk_20 0 159 (dk_at dksX4_isKept_0 1 rfl rfl)
theorem dX4_isKept_4 : decode cX4_isKept 4 = .ok (.lcmp, 1) := dk_148 (dk_at dksX4_isKept_0 4 rfl rfl)
theorem dX4_isKept_5 : decode cX4_isKept 5 = .ok (.ifCond .eq 67, 3) := dk_153 0 67 (dk_at dksX4_isKept_0 5 rfl rfl)
theorem dX4_isKept_8 : decode cX4_isKept 8 = .ok (.lload_n 0, 1) := dk_30 (dk_at dksX4_isKept_0 8 rfl rfl)
theorem dX4_isKept_9 : decode cX4_isKept 9 = .ok (.ldc2_w 161, 3) := dk_20 0 161 (dk_at dksX4_isKept_0 9 rfl rfl)
theorem dX4_isKept_12 : decode cX4_isKept 12 = .ok (.lcmp, 1) := dk_148 (dk_at dksX4_isKept_0 12 rfl rfl)
theorem dX4_isKept_13 : decode cX4_isKept 13 = .ok (.ifCond .eq 59, 3) := dk_153 0 59 (dk_at dksX4_isKept_0 13 rfl rfl)
theorem dX4_isKept_16 : decode cX4_isKept 16 = .ok (.lload_n 0, 1) := dk_30 (dk_at dksX4_isKept_0 16 rfl rfl)
theorem dX4_isKept_17 : decode cX4_isKept 17 = .ok (.ldc2_w 163, 3) := dk_20 0 163 (dk_at dksX4_isKept_0 17 rfl rfl)
theorem dX4_isKept_20 : decode cX4_isKept 20 = .ok (.lcmp, 1) := dk_148 (dk_at dksX4_isKept_0 20 rfl rfl)
theorem dX4_isKept_21 : decode cX4_isKept 21 = .ok (.ifCond .eq 51, 3) := dk_153 0 51 (dk_at dksX4_isKept_0 21 rfl rfl)
theorem dX4_isKept_24 : decode cX4_isKept 24 = .ok (.lload_n 0, 1) := dk_30 (dk_at dksX4_isKept_1 0 rfl rfl)
theorem dX4_isKept_25 : decode cX4_isKept 25 = .ok (.ldc2_w 165, 3) := dk_20 0 165 (dk_at dksX4_isKept_1 1 rfl rfl)
theorem dX4_isKept_28 : decode cX4_isKept 28 = .ok (.lcmp, 1) := dk_148 (dk_at dksX4_isKept_1 4 rfl rfl)
theorem dX4_isKept_29 : decode cX4_isKept 29 = .ok (.ifCond .eq 43, 3) := dk_153 0 43 (dk_at dksX4_isKept_1 5 rfl rfl)
theorem dX4_isKept_32 : decode cX4_isKept 32 = .ok (.lload_n 0, 1) := dk_30 (dk_at dksX4_isKept_1 8 rfl rfl)
theorem dX4_isKept_33 : decode cX4_isKept 33 = .ok (.ldc2_w 167, 3) := dk_20 0 167 (dk_at dksX4_isKept_1 9 rfl rfl)
theorem dX4_isKept_36 : decode cX4_isKept 36 = .ok (.lcmp, 1) := dk_148 (dk_at dksX4_isKept_1 12 rfl rfl)
theorem dX4_isKept_37 : decode cX4_isKept 37 = .ok (.ifCond .eq 35, 3) := dk_153 0 35 (dk_at dksX4_isKept_1 13 rfl rfl)
theorem dX4_isKept_40 : decode cX4_isKept 40 = .ok (.lload_n 0, 1) := dk_30 (dk_at dksX4_isKept_1 16 rfl rfl)
theorem dX4_isKept_41 : decode cX4_isKept 41 = .ok (.ldc2_w 169, 3) := dk_20 0 169 (dk_at dksX4_isKept_1 17 rfl rfl)
theorem dX4_isKept_44 : decode cX4_isKept 44 = .ok (.lcmp, 1) := dk_148 (dk_at dksX4_isKept_1 20 rfl rfl)
theorem dX4_isKept_45 : decode cX4_isKept 45 = .ok (.ifCond .eq 27, 3) := dk_153 0 27 (dk_at dksX4_isKept_1 21 rfl rfl)
theorem dX4_isKept_48 : decode cX4_isKept 48 = .ok (.lload_n 0, 1) := dk_30 (dk_at dksX4_isKept_2 0 rfl rfl)
theorem dX4_isKept_49 : decode cX4_isKept 49 = .ok (.ldc2_w 171, 3) := dk_20 0 171 (dk_at dksX4_isKept_2 1 rfl rfl)
theorem dX4_isKept_52 : decode cX4_isKept 52 = .ok (.lcmp, 1) := dk_148 (dk_at dksX4_isKept_2 4 rfl rfl)
theorem dX4_isKept_53 : decode cX4_isKept 53 = .ok (.ifCond .eq 19, 3) := dk_153 0 19 (dk_at dksX4_isKept_2 5 rfl rfl)
theorem dX4_isKept_56 : decode cX4_isKept 56 = .ok (.lload_n 0, 1) := dk_30 (dk_at dksX4_isKept_2 8 rfl rfl)
theorem dX4_isKept_57 : decode cX4_isKept 57 = .ok (.ldc2_w 173, 3) := dk_20 0 173 (dk_at dksX4_isKept_2 9 rfl rfl)
theorem dX4_isKept_60 : decode cX4_isKept 60 = .ok (.lcmp, 1) := dk_148 (dk_at dksX4_isKept_2 12 rfl rfl)
theorem dX4_isKept_61 : decode cX4_isKept 61 = .ok (.ifCond .eq 11, 3) := dk_153 0 11 (dk_at dksX4_isKept_2 13 rfl rfl)
theorem dX4_isKept_64 : decode cX4_isKept 64 = .ok (.lload_n 0, 1) := dk_30 (dk_at dksX4_isKept_2 16 rfl rfl)
theorem dX4_isKept_65 : decode cX4_isKept 65 = .ok (.ldc2_w 175, 3) := dk_20 0 175 (dk_at dksX4_isKept_2 17 rfl rfl)
theorem dX4_isKept_68 : decode cX4_isKept 68 = .ok (.lcmp, 1) := dk_148 (dk_at dksX4_isKept_2 20 rfl rfl)
theorem dX4_isKept_69 : decode cX4_isKept 69 = .ok (.ifCond .ne 7, 3) := dk_154 0 7 (dk_at dksX4_isKept_2 21 rfl rfl)
theorem dX4_isKept_72 : decode cX4_isKept 72 = .ok (.iconst 1, 1) := dk_4 (dk_at dksX4_isKept_3 0 rfl rfl)
theorem dX4_isKept_73 : decode cX4_isKept 73 = .ok (.goto 4, 3) := dk_167 0 4 (dk_at dksX4_isKept_3 1 rfl rfl)
theorem dX4_isKept_76 : decode cX4_isKept 76 = .ok (.iconst 0, 1) := dk_3 (dk_at dksX4_isKept_3 4 rfl rfl)
theorem dX4_isKept_77 : decode cX4_isKept 77 = .ok (.istore_n 2, 1) := dk_61 (dk_at dksX4_isKept_3 5 rfl rfl)
theorem dX4_isKept_78 : decode cX4_isKept 78 = .ok (.iload_n 2, 1) := dk_28 (dk_at dksX4_isKept_3 6 rfl rfl)
theorem dX4_isKept_79 : decode cX4_isKept 79 = .ok (.ifCond .ne 67, 3) := dk_154 0 67 (dk_at dksX4_isKept_3 7 rfl rfl)
theorem dX4_isKept_82 : decode cX4_isKept 82 = .ok (.lload_n 0, 1) := dk_30 (dk_at dksX4_isKept_3 10 rfl rfl)
theorem dX4_isKept_83 : decode cX4_isKept 83 = .ok (.ldc2_w 177, 3) := dk_20 0 177 (dk_at dksX4_isKept_3 11 rfl rfl)
theorem dX4_isKept_86 : decode cX4_isKept 86 = .ok (.lcmp, 1) := dk_148 (dk_at dksX4_isKept_3 14 rfl rfl)
theorem dX4_isKept_87 : decode cX4_isKept 87 = .ok (.ifCond .eq 59, 3) := dk_153 0 59 (dk_at dksX4_isKept_3 15 rfl rfl)
theorem dX4_isKept_90 : decode cX4_isKept 90 = .ok (.lload_n 0, 1) := dk_30 (dk_at dksX4_isKept_3 18 rfl rfl)
theorem dX4_isKept_91 : decode cX4_isKept 91 = .ok (.ldc2_w 179, 3) := dk_20 0 179 (dk_at dksX4_isKept_3 19 rfl rfl)
theorem dX4_isKept_94 : decode cX4_isKept 94 = .ok (.lcmp, 1) := dk_148 (dk_at dksX4_isKept_3 22 rfl rfl)
theorem dX4_isKept_95 : decode cX4_isKept 95 = .ok (.ifCond .eq 51, 3) := dk_153 0 51 (dk_at dksX4_isKept_4 0 rfl rfl)
theorem dX4_isKept_98 : decode cX4_isKept 98 = .ok (.lload_n 0, 1) := dk_30 (dk_at dksX4_isKept_4 3 rfl rfl)
theorem dX4_isKept_99 : decode cX4_isKept 99 = .ok (.ldc2_w 181, 3) := dk_20 0 181 (dk_at dksX4_isKept_4 4 rfl rfl)
theorem dX4_isKept_102 : decode cX4_isKept 102 = .ok (.lcmp, 1) := dk_148 (dk_at dksX4_isKept_4 7 rfl rfl)
theorem dX4_isKept_103 : decode cX4_isKept 103 = .ok (.ifCond .eq 43, 3) := dk_153 0 43 (dk_at dksX4_isKept_4 8 rfl rfl)
theorem dX4_isKept_106 : decode cX4_isKept 106 = .ok (.lload_n 0, 1) := dk_30 (dk_at dksX4_isKept_4 11 rfl rfl)
theorem dX4_isKept_107 : decode cX4_isKept 107 = .ok (.ldc2_w 183, 3) := dk_20 0 183 (dk_at dksX4_isKept_4 12 rfl rfl)
theorem dX4_isKept_110 : decode cX4_isKept 110 = .ok (.lcmp, 1) := dk_148 (dk_at dksX4_isKept_4 15 rfl rfl)
theorem dX4_isKept_111 : decode cX4_isKept 111 = .ok (.ifCond .eq 35, 3) := dk_153 0 35 (dk_at dksX4_isKept_4 16 rfl rfl)
theorem dX4_isKept_114 : decode cX4_isKept 114 = .ok (.lload_n 0, 1) := dk_30 (dk_at dksX4_isKept_4 19 rfl rfl)
theorem dX4_isKept_115 : decode cX4_isKept 115 = .ok (.ldc2_w 185, 3) := dk_20 0 185 (dk_at dksX4_isKept_4 20 rfl rfl)
theorem dX4_isKept_118 : decode cX4_isKept 118 = .ok (.lcmp, 1) := dk_148 (dk_at dksX4_isKept_4 23 rfl rfl)
theorem dX4_isKept_119 : decode cX4_isKept 119 = .ok (.ifCond .eq 27, 3) := dk_153 0 27 (dk_at dksX4_isKept_5 0 rfl rfl)
theorem dX4_isKept_122 : decode cX4_isKept 122 = .ok (.lload_n 0, 1) := dk_30 (dk_at dksX4_isKept_5 3 rfl rfl)
theorem dX4_isKept_123 : decode cX4_isKept 123 = .ok (.ldc2_w 187, 3) := dk_20 0 187 (dk_at dksX4_isKept_5 4 rfl rfl)
theorem dX4_isKept_126 : decode cX4_isKept 126 = .ok (.lcmp, 1) := dk_148 (dk_at dksX4_isKept_5 7 rfl rfl)
theorem dX4_isKept_127 : decode cX4_isKept 127 = .ok (.ifCond .eq 19, 3) := dk_153 0 19 (dk_at dksX4_isKept_5 8 rfl rfl)
theorem dX4_isKept_130 : decode cX4_isKept 130 = .ok (.lload_n 0, 1) := dk_30 (dk_at dksX4_isKept_5 11 rfl rfl)
theorem dX4_isKept_131 : decode cX4_isKept 131 = .ok (.ldc2_w 189, 3) := dk_20 0 189 (dk_at dksX4_isKept_5 12 rfl rfl)
theorem dX4_isKept_134 : decode cX4_isKept 134 = .ok (.lcmp, 1) := dk_148 (dk_at dksX4_isKept_5 15 rfl rfl)
theorem dX4_isKept_135 : decode cX4_isKept 135 = .ok (.ifCond .eq 11, 3) := dk_153 0 11 (dk_at dksX4_isKept_5 16 rfl rfl)
theorem dX4_isKept_138 : decode cX4_isKept 138 = .ok (.lload_n 0, 1) := dk_30 (dk_at dksX4_isKept_5 19 rfl rfl)
theorem dX4_isKept_139 : decode cX4_isKept 139 = .ok (.ldc2_w 191, 3) := dk_20 0 191 (dk_at dksX4_isKept_5 20 rfl rfl)
theorem dX4_isKept_142 : decode cX4_isKept 142 = .ok (.lcmp, 1) := dk_148 (dk_at dksX4_isKept_5 23 rfl rfl)
theorem dX4_isKept_143 : decode cX4_isKept 143 = .ok (.ifCond .ne 7, 3) := dk_154 0 7 (dk_at dksX4_isKept_6 0 rfl rfl)
theorem dX4_isKept_146 : decode cX4_isKept 146 = .ok (.iconst 1, 1) := dk_4 (dk_at dksX4_isKept_6 3 rfl rfl)
theorem dX4_isKept_147 : decode cX4_isKept 147 = .ok (.goto 4, 3) := dk_167 0 4 (dk_at dksX4_isKept_6 4 rfl rfl)
theorem dX4_isKept_150 : decode cX4_isKept 150 = .ok (.iconst 0, 1) := dk_3 (dk_at dksX4_isKept_6 7 rfl rfl)
theorem dX4_isKept_151 : decode cX4_isKept 151 = .ok (.ireturn, 1) := dk_172 (dk_at dksX4_isKept_6 8 rfl rfl)
abbrev cX4_isDigit : ByteArray := prog_27_method_4_code
def yX4_isDigit : MethodName := ⟨RX4, "isDigit", "(I)Z"⟩
def dkwX4_isDigit_0 : List UInt8 := [26, 16, 48, 161, 0, 13, 26, 16, 57, 163, 0, 7, 4, 167, 0, 4, 3, 172]
abbrev dktX4_isDigit_0 : List UInt8 := dkwX4_isDigit_0 ++ []
theorem dksX4_isDigit_0 : cX4_isDigit.data.toList.drop 0 = dktX4_isDigit_0 := by decide +kernel
theorem dX4_isDigit_0 : decode cX4_isDigit 0 = .ok (.iload_n 0, 1) := dk_26 (dk_at dksX4_isDigit_0 0 rfl rfl)
theorem dX4_isDigit_1 : decode cX4_isDigit 1 = .ok (.bipush 48, 2) := dk_16 48 (dk_at dksX4_isDigit_0 1 rfl rfl)
theorem dX4_isDigit_3 : decode cX4_isDigit 3 = .ok (.if_icmp .lt 13, 3) := dk_161 0 13 (dk_at dksX4_isDigit_0 3 rfl rfl)
theorem dX4_isDigit_6 : decode cX4_isDigit 6 = .ok (.iload_n 0, 1) := dk_26 (dk_at dksX4_isDigit_0 6 rfl rfl)
theorem dX4_isDigit_7 : decode cX4_isDigit 7 = .ok (.bipush 57, 2) := dk_16 57 (dk_at dksX4_isDigit_0 7 rfl rfl)
theorem dX4_isDigit_9 : decode cX4_isDigit 9 = .ok (.if_icmp .gt 7, 3) := dk_163 0 7 (dk_at dksX4_isDigit_0 9 rfl rfl)
theorem dX4_isDigit_12 : decode cX4_isDigit 12 = .ok (.iconst 1, 1) := dk_4 (dk_at dksX4_isDigit_0 12 rfl rfl)
theorem dX4_isDigit_13 : decode cX4_isDigit 13 = .ok (.goto 4, 3) := dk_167 0 4 (dk_at dksX4_isDigit_0 13 rfl rfl)
theorem dX4_isDigit_16 : decode cX4_isDigit 16 = .ok (.iconst 0, 1) := dk_3 (dk_at dksX4_isDigit_0 16 rfl rfl)
theorem dX4_isDigit_17 : decode cX4_isDigit 17 = .ok (.ireturn, 1) := dk_172 (dk_at dksX4_isDigit_0 17 rfl rfl)
abbrev cX4_isSign : ByteArray := prog_27_method_8_code
def yX4_isSign : MethodName := ⟨RX4, "isSign", "(I)Z"⟩
def dkwX4_isSign_2 : List UInt8 := [26, 16, 42, 159, 0, 15, 26, 16, 47, 159, 0, 9, 26, 16, 37, 160, 0, 7, 4, 167, 0, 4, 3, 172]
abbrev dktX4_isSign_2 : List UInt8 := dkwX4_isSign_2 ++ []
def dkwX4_isSign_1 : List UInt8 := [26, 16, 62, 159, 0, 39, 26, 16, 61, 159, 0, 33, 26, 16, 43, 159, 0, 27, 26, 16, 45, 159, 0, 21]
abbrev dktX4_isSign_1 : List UInt8 := dkwX4_isSign_1 ++ dktX4_isSign_2
def dkwX4_isSign_0 : List UInt8 := [26, 16, 59, 159, 0, 63, 26, 16, 40, 159, 0, 57, 26, 16, 41, 159, 0, 51, 26, 16, 60, 159, 0, 45]
abbrev dktX4_isSign_0 : List UInt8 := dkwX4_isSign_0 ++ dktX4_isSign_1
theorem dksX4_isSign_0 : cX4_isSign.data.toList.drop 0 = dktX4_isSign_0 := by decide +kernel
theorem dksX4_isSign_1 : cX4_isSign.data.toList.drop 24 = dktX4_isSign_1 := dk_seg dksX4_isSign_0 24 rfl rfl
theorem dksX4_isSign_2 : cX4_isSign.data.toList.drop 48 = dktX4_isSign_2 := dk_seg dksX4_isSign_1 24 rfl rfl
theorem dX4_isSign_0 : decode cX4_isSign 0 = .ok (.iload_n 0, 1) := dk_26 (dk_at dksX4_isSign_0 0 rfl rfl)
theorem dX4_isSign_1 : decode cX4_isSign 1 = .ok (.bipush 59, 2) := dk_16 59 (dk_at dksX4_isSign_0 1 rfl rfl)
theorem dX4_isSign_3 : decode cX4_isSign 3 = .ok (.if_icmp .eq 63, 3) := dk_159 0 63 (dk_at dksX4_isSign_0 3 rfl rfl)
theorem dX4_isSign_6 : decode cX4_isSign 6 = .ok (.iload_n 0, 1) := dk_26 (dk_at dksX4_isSign_0 6 rfl rfl)
theorem dX4_isSign_7 : decode cX4_isSign 7 = .ok (.bipush 40, 2) := dk_16 40 (dk_at dksX4_isSign_0 7 rfl rfl)
theorem dX4_isSign_9 : decode cX4_isSign 9 = .ok (.if_icmp .eq 57, 3) := dk_159 0 57 (dk_at dksX4_isSign_0 9 rfl rfl)
theorem dX4_isSign_12 : decode cX4_isSign 12 = .ok (.iload_n 0, 1) := dk_26 (dk_at dksX4_isSign_0 12 rfl rfl)
theorem dX4_isSign_13 : decode cX4_isSign 13 = .ok (.bipush 41, 2) := dk_16 41 (dk_at dksX4_isSign_0 13 rfl rfl)
theorem dX4_isSign_15 : decode cX4_isSign 15 = .ok (.if_icmp .eq 51, 3) := dk_159 0 51 (dk_at dksX4_isSign_0 15 rfl rfl)
theorem dX4_isSign_18 : decode cX4_isSign 18 = .ok (.iload_n 0, 1) := dk_26 (dk_at dksX4_isSign_0 18 rfl rfl)
theorem dX4_isSign_19 : decode cX4_isSign 19 = .ok (.bipush 60, 2) := dk_16 60 (dk_at dksX4_isSign_0 19 rfl rfl)
theorem dX4_isSign_21 : decode cX4_isSign 21 = .ok (.if_icmp .eq 45, 3) := dk_159 0 45 (dk_at dksX4_isSign_0 21 rfl rfl)
theorem dX4_isSign_24 : decode cX4_isSign 24 = .ok (.iload_n 0, 1) := dk_26 (dk_at dksX4_isSign_1 0 rfl rfl)
theorem dX4_isSign_25 : decode cX4_isSign 25 = .ok (.bipush 62, 2) := dk_16 62 (dk_at dksX4_isSign_1 1 rfl rfl)
theorem dX4_isSign_27 : decode cX4_isSign 27 = .ok (.if_icmp .eq 39, 3) := dk_159 0 39 (dk_at dksX4_isSign_1 3 rfl rfl)
theorem dX4_isSign_30 : decode cX4_isSign 30 = .ok (.iload_n 0, 1) := dk_26 (dk_at dksX4_isSign_1 6 rfl rfl)
theorem dX4_isSign_31 : decode cX4_isSign 31 = .ok (.bipush 61, 2) := dk_16 61 (dk_at dksX4_isSign_1 7 rfl rfl)
theorem dX4_isSign_33 : decode cX4_isSign 33 = .ok (.if_icmp .eq 33, 3) := dk_159 0 33 (dk_at dksX4_isSign_1 9 rfl rfl)
theorem dX4_isSign_36 : decode cX4_isSign 36 = .ok (.iload_n 0, 1) := dk_26 (dk_at dksX4_isSign_1 12 rfl rfl)
theorem dX4_isSign_37 : decode cX4_isSign 37 = .ok (.bipush 43, 2) := dk_16 43 (dk_at dksX4_isSign_1 13 rfl rfl)
theorem dX4_isSign_39 : decode cX4_isSign 39 = .ok (.if_icmp .eq 27, 3) := dk_159 0 27 (dk_at dksX4_isSign_1 15 rfl rfl)
theorem dX4_isSign_42 : decode cX4_isSign 42 = .ok (.iload_n 0, 1) := dk_26 (dk_at dksX4_isSign_1 18 rfl rfl)
theorem dX4_isSign_43 : decode cX4_isSign 43 = .ok (.bipush 45, 2) := dk_16 45 (dk_at dksX4_isSign_1 19 rfl rfl)
theorem dX4_isSign_45 : decode cX4_isSign 45 = .ok (.if_icmp .eq 21, 3) := dk_159 0 21 (dk_at dksX4_isSign_1 21 rfl rfl)
theorem dX4_isSign_48 : decode cX4_isSign 48 = .ok (.iload_n 0, 1) := dk_26 (dk_at dksX4_isSign_2 0 rfl rfl)
theorem dX4_isSign_49 : decode cX4_isSign 49 = .ok (.bipush 42, 2) := dk_16 42 (dk_at dksX4_isSign_2 1 rfl rfl)
theorem dX4_isSign_51 : decode cX4_isSign 51 = .ok (.if_icmp .eq 15, 3) := dk_159 0 15 (dk_at dksX4_isSign_2 3 rfl rfl)
theorem dX4_isSign_54 : decode cX4_isSign 54 = .ok (.iload_n 0, 1) := dk_26 (dk_at dksX4_isSign_2 6 rfl rfl)
theorem dX4_isSign_55 : decode cX4_isSign 55 = .ok (.bipush 47, 2) := dk_16 47 (dk_at dksX4_isSign_2 7 rfl rfl)
theorem dX4_isSign_57 : decode cX4_isSign 57 = .ok (.if_icmp .eq 9, 3) := dk_159 0 9 (dk_at dksX4_isSign_2 9 rfl rfl)
theorem dX4_isSign_60 : decode cX4_isSign 60 = .ok (.iload_n 0, 1) := dk_26 (dk_at dksX4_isSign_2 12 rfl rfl)
theorem dX4_isSign_61 : decode cX4_isSign 61 = .ok (.bipush 37, 2) := dk_16 37 (dk_at dksX4_isSign_2 13 rfl rfl)
theorem dX4_isSign_63 : decode cX4_isSign 63 = .ok (.if_icmp .ne 7, 3) := dk_160 0 7 (dk_at dksX4_isSign_2 15 rfl rfl)
theorem dX4_isSign_66 : decode cX4_isSign 66 = .ok (.iconst 1, 1) := dk_4 (dk_at dksX4_isSign_2 18 rfl rfl)
theorem dX4_isSign_67 : decode cX4_isSign 67 = .ok (.goto 4, 3) := dk_167 0 4 (dk_at dksX4_isSign_2 19 rfl rfl)
theorem dX4_isSign_70 : decode cX4_isSign 70 = .ok (.iconst 0, 1) := dk_3 (dk_at dksX4_isSign_2 22 rfl rfl)
theorem dX4_isSign_71 : decode cX4_isSign 71 = .ok (.ireturn, 1) := dk_172 (dk_at dksX4_isSign_2 23 rfl rfl)
abbrev cX4_isGood : ByteArray := prog_27_method_6_code
def yX4_isGood : MethodName := ⟨RX4, "isGood", "()Z"⟩
def dkwX4_isGood_0 : List UInt8 := [42, 180, 0, 156, 154, 0, 7, 4, 167, 0, 4, 3, 172]
abbrev dktX4_isGood_0 : List UInt8 := dkwX4_isGood_0 ++ []
theorem dksX4_isGood_0 : cX4_isGood.data.toList.drop 0 = dktX4_isGood_0 := by decide +kernel
theorem dX4_isGood_0 : decode cX4_isGood 0 = .ok (.aload_n 0, 1) := dk_42 (dk_at dksX4_isGood_0 0 rfl rfl)
theorem dX4_isGood_1 : decode cX4_isGood 1 = .ok (.getfield 156, 3) := dk_180 0 156 (dk_at dksX4_isGood_0 1 rfl rfl)
theorem dX4_isGood_4 : decode cX4_isGood 4 = .ok (.ifCond .ne 7, 3) := dk_154 0 7 (dk_at dksX4_isGood_0 4 rfl rfl)
theorem dX4_isGood_7 : decode cX4_isGood 7 = .ok (.iconst 1, 1) := dk_4 (dk_at dksX4_isGood_0 7 rfl rfl)
theorem dX4_isGood_8 : decode cX4_isGood 8 = .ok (.goto 4, 3) := dk_167 0 4 (dk_at dksX4_isGood_0 8 rfl rfl)
theorem dX4_isGood_11 : decode cX4_isGood 11 = .ok (.iconst 0, 1) := dk_3 (dk_at dksX4_isGood_0 11 rfl rfl)
theorem dX4_isGood_12 : decode cX4_isGood 12 = .ok (.ireturn, 1) := dk_172 (dk_at dksX4_isGood_0 12 rfl rfl)
abbrev cX4_readLine : ByteArray := prog_27_method_18_code
def yX4_readLine : MethodName := ⟨RX4, "readLine", "()V"⟩
def dkwX4_readLine_7 : List UInt8 := [182, 1, 6, 79, 42, 42, 16, 59, 182, 1, 16, 182, 1, 19, 177]
abbrev dktX4_readLine_7 : List UInt8 := dkwX4_readLine_7 ++ []
def dkwX4_readLine_6 : List UInt8 := [42, 180, 0, 55, 42, 180, 0, 241, 4, 84, 42, 180, 0, 36, 42, 180, 0, 241, 42, 3, 17, 3, 231]
abbrev dktX4_readLine_6 : List UInt8 := dkwX4_readLine_6 ++ dktX4_readLine_7
def dkwX4_readLine_5 : List UInt8 := [180, 0, 33, 42, 180, 0, 241, 42, 3, 17, 3, 231, 182, 1, 6, 79, 31, 20, 0, 171, 148, 154, 0, 30]
abbrev dktX4_readLine_5 : List UInt8 := dkwX4_readLine_5 ++ dktX4_readLine_6
def dkwX4_readLine_4 : List UInt8 := [182, 1, 13, 31, 20, 0, 169, 148, 154, 0, 30, 42, 180, 0, 52, 42, 180, 0, 241, 4, 84, 42]
abbrev dktX4_readLine_4 : List UInt8 := dkwX4_readLine_4 ++ dktX4_readLine_5
def dkwX4_readLine_3 : List UInt8 := [79, 31, 20, 0, 161, 148, 154, 0, 7, 42, 182, 1, 10, 31, 20, 0, 163, 148, 154, 0, 7, 42]
abbrev dktX4_readLine_3 : List UInt8 := dkwX4_readLine_3 ++ dktX4_readLine_4
def dkwX4_readLine_2 : List UInt8 := [79, 31, 20, 0, 159, 148, 154, 0, 19, 42, 180, 0, 20, 42, 180, 0, 241, 42, 4, 16, 12, 182, 1, 6]
abbrev dktX4_readLine_2 : List UInt8 := dkwX4_readLine_2 ++ dktX4_readLine_3
def dkwX4_readLine_1 : List UInt8 := [42, 182, 0, 231, 154, 0, 4, 177, 42, 182, 0, 235, 42, 180, 0, 39, 42, 180, 0, 241, 92, 46, 4, 96]
abbrev dktX4_readLine_1 : List UInt8 := dkwX4_readLine_1 ++ dktX4_readLine_2
def dkwX4_readLine_0 : List UInt8 := [42, 180, 0, 210, 64, 42, 180, 0, 203, 6, 160, 0, 10, 42, 182, 1, 3, 153, 0, 7, 42, 182, 0, 238]
abbrev dktX4_readLine_0 : List UInt8 := dkwX4_readLine_0 ++ dktX4_readLine_1
theorem dksX4_readLine_0 : cX4_readLine.data.toList.drop 0 = dktX4_readLine_0 := by decide +kernel
theorem dksX4_readLine_1 : cX4_readLine.data.toList.drop 24 = dktX4_readLine_1 := dk_seg dksX4_readLine_0 24 rfl rfl
theorem dksX4_readLine_2 : cX4_readLine.data.toList.drop 48 = dktX4_readLine_2 := dk_seg dksX4_readLine_1 24 rfl rfl
theorem dksX4_readLine_3 : cX4_readLine.data.toList.drop 72 = dktX4_readLine_3 := dk_seg dksX4_readLine_2 24 rfl rfl
theorem dksX4_readLine_4 : cX4_readLine.data.toList.drop 94 = dktX4_readLine_4 := dk_seg dksX4_readLine_3 22 rfl rfl
theorem dksX4_readLine_5 : cX4_readLine.data.toList.drop 116 = dktX4_readLine_5 := dk_seg dksX4_readLine_4 22 rfl rfl
theorem dksX4_readLine_6 : cX4_readLine.data.toList.drop 140 = dktX4_readLine_6 := dk_seg dksX4_readLine_5 24 rfl rfl
theorem dksX4_readLine_7 : cX4_readLine.data.toList.drop 163 = dktX4_readLine_7 := dk_seg dksX4_readLine_6 23 rfl rfl
theorem dX4_readLine_0 : decode cX4_readLine 0 = .ok (.aload_n 0, 1) := dk_42 (dk_at dksX4_readLine_0 0 rfl rfl)
theorem dX4_readLine_1 : decode cX4_readLine 1 = .ok (.getfield 210, 3) := dk_180 0 210 (dk_at dksX4_readLine_0 1 rfl rfl)
theorem dX4_readLine_4 : decode cX4_readLine 4 = .ok (.lstore_n 1, 1) := dk_64 (dk_at dksX4_readLine_0 4 rfl rfl)
theorem dX4_readLine_5 : decode cX4_readLine 5 = .ok (.aload_n 0, 1) := dk_42 (dk_at dksX4_readLine_0 5 rfl rfl)
theorem dX4_readLine_6 : decode cX4_readLine 6 = .ok (.getfield 203, 3) := dk_180 0 203 (dk_at dksX4_readLine_0 6 rfl rfl)
theorem dX4_readLine_9 : decode cX4_readLine 9 = .ok (.iconst 3, 1) := dk_6 (dk_at dksX4_readLine_0 9 rfl rfl)
theorem dX4_readLine_10 : decode cX4_readLine 10 = .ok (.if_icmp .ne 10, 3) := dk_160 0 10 (dk_at dksX4_readLine_0 10 rfl rfl)
theorem dX4_readLine_13 : decode cX4_readLine 13 = .ok (.aload_n 0, 1) := dk_42 (dk_at dksX4_readLine_0 13 rfl rfl)
theorem dX4_readLine_14 : decode cX4_readLine 14 = .ok (.invokevirtual 259, 3) := dk_182 1 3 (dk_at dksX4_readLine_0 14 rfl rfl)
theorem dX4_readLine_17 : decode cX4_readLine 17 = .ok (.ifCond .eq 7, 3) := dk_153 0 7 (dk_at dksX4_readLine_0 17 rfl rfl)
theorem dX4_readLine_20 : decode cX4_readLine 20 = .ok (.aload_n 0, 1) := dk_42 (dk_at dksX4_readLine_0 20 rfl rfl)
theorem dX4_readLine_21 : decode cX4_readLine 21 = .ok (.invokevirtual 238, 3) := dk_182 0 238 (dk_at dksX4_readLine_0 21 rfl rfl)
theorem dX4_readLine_24 : decode cX4_readLine 24 = .ok (.aload_n 0, 1) := dk_42 (dk_at dksX4_readLine_1 0 rfl rfl)
theorem dX4_readLine_25 : decode cX4_readLine 25 = .ok (.invokevirtual 231, 3) := dk_182 0 231 (dk_at dksX4_readLine_1 1 rfl rfl)
theorem dX4_readLine_28 : decode cX4_readLine 28 = .ok (.ifCond .ne 4, 3) := dk_154 0 4 (dk_at dksX4_readLine_1 4 rfl rfl)
theorem dX4_readLine_31 : decode cX4_readLine 31 = .ok (.return_, 1) := dk_177 (dk_at dksX4_readLine_1 7 rfl rfl)
theorem dX4_readLine_32 : decode cX4_readLine 32 = .ok (.aload_n 0, 1) := dk_42 (dk_at dksX4_readLine_1 8 rfl rfl)
theorem dX4_readLine_33 : decode cX4_readLine 33 = .ok (.invokevirtual 235, 3) := dk_182 0 235 (dk_at dksX4_readLine_1 9 rfl rfl)
theorem dX4_readLine_36 : decode cX4_readLine 36 = .ok (.aload_n 0, 1) := dk_42 (dk_at dksX4_readLine_1 12 rfl rfl)
theorem dX4_readLine_37 : decode cX4_readLine 37 = .ok (.getfield 39, 3) := dk_180 0 39 (dk_at dksX4_readLine_1 13 rfl rfl)
theorem dX4_readLine_40 : decode cX4_readLine 40 = .ok (.aload_n 0, 1) := dk_42 (dk_at dksX4_readLine_1 16 rfl rfl)
theorem dX4_readLine_41 : decode cX4_readLine 41 = .ok (.getfield 241, 3) := dk_180 0 241 (dk_at dksX4_readLine_1 17 rfl rfl)
theorem dX4_readLine_44 : decode cX4_readLine 44 = .ok (.dup2, 1) := dk_92 (dk_at dksX4_readLine_1 20 rfl rfl)
theorem dX4_readLine_45 : decode cX4_readLine 45 = .ok (.iaload, 1) := dk_46 (dk_at dksX4_readLine_1 21 rfl rfl)
theorem dX4_readLine_46 : decode cX4_readLine 46 = .ok (.iconst 1, 1) := dk_4 (dk_at dksX4_readLine_1 22 rfl rfl)
theorem dX4_readLine_47 : decode cX4_readLine 47 = .ok (.iadd, 1) := dk_96 (dk_at dksX4_readLine_1 23 rfl rfl)
theorem dX4_readLine_48 : decode cX4_readLine 48 = .ok (.iastore, 1) := dk_79 (dk_at dksX4_readLine_2 0 rfl rfl)
theorem dX4_readLine_49 : decode cX4_readLine 49 = .ok (.lload_n 1, 1) := dk_31 (dk_at dksX4_readLine_2 1 rfl rfl)
theorem dX4_readLine_50 : decode cX4_readLine 50 = .ok (.ldc2_w 159, 3) := dk_20 0 159 (dk_at dksX4_readLine_2 2 rfl rfl)
theorem dX4_readLine_53 : decode cX4_readLine 53 = .ok (.lcmp, 1) := dk_148 (dk_at dksX4_readLine_2 5 rfl rfl)
theorem dX4_readLine_54 : decode cX4_readLine 54 = .ok (.ifCond .ne 19, 3) := dk_154 0 19 (dk_at dksX4_readLine_2 6 rfl rfl)
theorem dX4_readLine_57 : decode cX4_readLine 57 = .ok (.aload_n 0, 1) := dk_42 (dk_at dksX4_readLine_2 9 rfl rfl)
theorem dX4_readLine_58 : decode cX4_readLine 58 = .ok (.getfield 20, 3) := dk_180 0 20 (dk_at dksX4_readLine_2 10 rfl rfl)
theorem dX4_readLine_61 : decode cX4_readLine 61 = .ok (.aload_n 0, 1) := dk_42 (dk_at dksX4_readLine_2 13 rfl rfl)
theorem dX4_readLine_62 : decode cX4_readLine 62 = .ok (.getfield 241, 3) := dk_180 0 241 (dk_at dksX4_readLine_2 14 rfl rfl)
theorem dX4_readLine_65 : decode cX4_readLine 65 = .ok (.aload_n 0, 1) := dk_42 (dk_at dksX4_readLine_2 17 rfl rfl)
theorem dX4_readLine_66 : decode cX4_readLine 66 = .ok (.iconst 1, 1) := dk_4 (dk_at dksX4_readLine_2 18 rfl rfl)
theorem dX4_readLine_67 : decode cX4_readLine 67 = .ok (.bipush 12, 2) := dk_16 12 (dk_at dksX4_readLine_2 19 rfl rfl)
theorem dX4_readLine_69 : decode cX4_readLine 69 = .ok (.invokevirtual 262, 3) := dk_182 1 6 (dk_at dksX4_readLine_2 21 rfl rfl)
theorem dX4_readLine_72 : decode cX4_readLine 72 = .ok (.iastore, 1) := dk_79 (dk_at dksX4_readLine_3 0 rfl rfl)
theorem dX4_readLine_73 : decode cX4_readLine 73 = .ok (.lload_n 1, 1) := dk_31 (dk_at dksX4_readLine_3 1 rfl rfl)
theorem dX4_readLine_74 : decode cX4_readLine 74 = .ok (.ldc2_w 161, 3) := dk_20 0 161 (dk_at dksX4_readLine_3 2 rfl rfl)
theorem dX4_readLine_77 : decode cX4_readLine 77 = .ok (.lcmp, 1) := dk_148 (dk_at dksX4_readLine_3 5 rfl rfl)
theorem dX4_readLine_78 : decode cX4_readLine 78 = .ok (.ifCond .ne 7, 3) := dk_154 0 7 (dk_at dksX4_readLine_3 6 rfl rfl)
theorem dX4_readLine_81 : decode cX4_readLine 81 = .ok (.aload_n 0, 1) := dk_42 (dk_at dksX4_readLine_3 9 rfl rfl)
theorem dX4_readLine_82 : decode cX4_readLine 82 = .ok (.invokevirtual 266, 3) := dk_182 1 10 (dk_at dksX4_readLine_3 10 rfl rfl)
theorem dX4_readLine_85 : decode cX4_readLine 85 = .ok (.lload_n 1, 1) := dk_31 (dk_at dksX4_readLine_3 13 rfl rfl)
theorem dX4_readLine_86 : decode cX4_readLine 86 = .ok (.ldc2_w 163, 3) := dk_20 0 163 (dk_at dksX4_readLine_3 14 rfl rfl)
theorem dX4_readLine_89 : decode cX4_readLine 89 = .ok (.lcmp, 1) := dk_148 (dk_at dksX4_readLine_3 17 rfl rfl)
theorem dX4_readLine_90 : decode cX4_readLine 90 = .ok (.ifCond .ne 7, 3) := dk_154 0 7 (dk_at dksX4_readLine_3 18 rfl rfl)
theorem dX4_readLine_93 : decode cX4_readLine 93 = .ok (.aload_n 0, 1) := dk_42 (dk_at dksX4_readLine_3 21 rfl rfl)
theorem dX4_readLine_94 : decode cX4_readLine 94 = .ok (.invokevirtual 269, 3) := dk_182 1 13 (dk_at dksX4_readLine_4 0 rfl rfl)
theorem dX4_readLine_97 : decode cX4_readLine 97 = .ok (.lload_n 1, 1) := dk_31 (dk_at dksX4_readLine_4 3 rfl rfl)
theorem dX4_readLine_98 : decode cX4_readLine 98 = .ok (.ldc2_w 169, 3) := dk_20 0 169 (dk_at dksX4_readLine_4 4 rfl rfl)
theorem dX4_readLine_101 : decode cX4_readLine 101 = .ok (.lcmp, 1) := dk_148 (dk_at dksX4_readLine_4 7 rfl rfl)
theorem dX4_readLine_102 : decode cX4_readLine 102 = .ok (.ifCond .ne 30, 3) := dk_154 0 30 (dk_at dksX4_readLine_4 8 rfl rfl)
theorem dX4_readLine_105 : decode cX4_readLine 105 = .ok (.aload_n 0, 1) := dk_42 (dk_at dksX4_readLine_4 11 rfl rfl)
theorem dX4_readLine_106 : decode cX4_readLine 106 = .ok (.getfield 52, 3) := dk_180 0 52 (dk_at dksX4_readLine_4 12 rfl rfl)
theorem dX4_readLine_109 : decode cX4_readLine 109 = .ok (.aload_n 0, 1) := dk_42 (dk_at dksX4_readLine_4 15 rfl rfl)
theorem dX4_readLine_110 : decode cX4_readLine 110 = .ok (.getfield 241, 3) := dk_180 0 241 (dk_at dksX4_readLine_4 16 rfl rfl)
theorem dX4_readLine_113 : decode cX4_readLine 113 = .ok (.iconst 1, 1) := dk_4 (dk_at dksX4_readLine_4 19 rfl rfl)
theorem dX4_readLine_114 : decode cX4_readLine 114 = .ok (.bastore, 1) := dk_84 (dk_at dksX4_readLine_4 20 rfl rfl)
theorem dX4_readLine_115 : decode cX4_readLine 115 = .ok (.aload_n 0, 1) := dk_42 (dk_at dksX4_readLine_4 21 rfl rfl)
theorem dX4_readLine_116 : decode cX4_readLine 116 = .ok (.getfield 33, 3) := dk_180 0 33 (dk_at dksX4_readLine_5 0 rfl rfl)
theorem dX4_readLine_119 : decode cX4_readLine 119 = .ok (.aload_n 0, 1) := dk_42 (dk_at dksX4_readLine_5 3 rfl rfl)
theorem dX4_readLine_120 : decode cX4_readLine 120 = .ok (.getfield 241, 3) := dk_180 0 241 (dk_at dksX4_readLine_5 4 rfl rfl)
theorem dX4_readLine_123 : decode cX4_readLine 123 = .ok (.aload_n 0, 1) := dk_42 (dk_at dksX4_readLine_5 7 rfl rfl)
theorem dX4_readLine_124 : decode cX4_readLine 124 = .ok (.iconst 0, 1) := dk_3 (dk_at dksX4_readLine_5 8 rfl rfl)
theorem dX4_readLine_125 : decode cX4_readLine 125 = .ok (.sipush 999, 3) := dk_17 3 231 (dk_at dksX4_readLine_5 9 rfl rfl)
theorem dX4_readLine_128 : decode cX4_readLine 128 = .ok (.invokevirtual 262, 3) := dk_182 1 6 (dk_at dksX4_readLine_5 12 rfl rfl)
theorem dX4_readLine_131 : decode cX4_readLine 131 = .ok (.iastore, 1) := dk_79 (dk_at dksX4_readLine_5 15 rfl rfl)
theorem dX4_readLine_132 : decode cX4_readLine 132 = .ok (.lload_n 1, 1) := dk_31 (dk_at dksX4_readLine_5 16 rfl rfl)
theorem dX4_readLine_133 : decode cX4_readLine 133 = .ok (.ldc2_w 171, 3) := dk_20 0 171 (dk_at dksX4_readLine_5 17 rfl rfl)
theorem dX4_readLine_136 : decode cX4_readLine 136 = .ok (.lcmp, 1) := dk_148 (dk_at dksX4_readLine_5 20 rfl rfl)
theorem dX4_readLine_137 : decode cX4_readLine 137 = .ok (.ifCond .ne 30, 3) := dk_154 0 30 (dk_at dksX4_readLine_5 21 rfl rfl)
theorem dX4_readLine_140 : decode cX4_readLine 140 = .ok (.aload_n 0, 1) := dk_42 (dk_at dksX4_readLine_6 0 rfl rfl)
theorem dX4_readLine_141 : decode cX4_readLine 141 = .ok (.getfield 55, 3) := dk_180 0 55 (dk_at dksX4_readLine_6 1 rfl rfl)
theorem dX4_readLine_144 : decode cX4_readLine 144 = .ok (.aload_n 0, 1) := dk_42 (dk_at dksX4_readLine_6 4 rfl rfl)
theorem dX4_readLine_145 : decode cX4_readLine 145 = .ok (.getfield 241, 3) := dk_180 0 241 (dk_at dksX4_readLine_6 5 rfl rfl)
theorem dX4_readLine_148 : decode cX4_readLine 148 = .ok (.iconst 1, 1) := dk_4 (dk_at dksX4_readLine_6 8 rfl rfl)
theorem dX4_readLine_149 : decode cX4_readLine 149 = .ok (.bastore, 1) := dk_84 (dk_at dksX4_readLine_6 9 rfl rfl)
theorem dX4_readLine_150 : decode cX4_readLine 150 = .ok (.aload_n 0, 1) := dk_42 (dk_at dksX4_readLine_6 10 rfl rfl)
theorem dX4_readLine_151 : decode cX4_readLine 151 = .ok (.getfield 36, 3) := dk_180 0 36 (dk_at dksX4_readLine_6 11 rfl rfl)
theorem dX4_readLine_154 : decode cX4_readLine 154 = .ok (.aload_n 0, 1) := dk_42 (dk_at dksX4_readLine_6 14 rfl rfl)
theorem dX4_readLine_155 : decode cX4_readLine 155 = .ok (.getfield 241, 3) := dk_180 0 241 (dk_at dksX4_readLine_6 15 rfl rfl)
theorem dX4_readLine_158 : decode cX4_readLine 158 = .ok (.aload_n 0, 1) := dk_42 (dk_at dksX4_readLine_6 18 rfl rfl)
theorem dX4_readLine_159 : decode cX4_readLine 159 = .ok (.iconst 0, 1) := dk_3 (dk_at dksX4_readLine_6 19 rfl rfl)
theorem dX4_readLine_160 : decode cX4_readLine 160 = .ok (.sipush 999, 3) := dk_17 3 231 (dk_at dksX4_readLine_6 20 rfl rfl)
theorem dX4_readLine_163 : decode cX4_readLine 163 = .ok (.invokevirtual 262, 3) := dk_182 1 6 (dk_at dksX4_readLine_7 0 rfl rfl)
theorem dX4_readLine_166 : decode cX4_readLine 166 = .ok (.iastore, 1) := dk_79 (dk_at dksX4_readLine_7 3 rfl rfl)
theorem dX4_readLine_167 : decode cX4_readLine 167 = .ok (.aload_n 0, 1) := dk_42 (dk_at dksX4_readLine_7 4 rfl rfl)
theorem dX4_readLine_168 : decode cX4_readLine 168 = .ok (.aload_n 0, 1) := dk_42 (dk_at dksX4_readLine_7 5 rfl rfl)
theorem dX4_readLine_169 : decode cX4_readLine 169 = .ok (.bipush 59, 2) := dk_16 59 (dk_at dksX4_readLine_7 6 rfl rfl)
theorem dX4_readLine_171 : decode cX4_readLine 171 = .ok (.invokevirtual 272, 3) := dk_182 1 16 (dk_at dksX4_readLine_7 8 rfl rfl)
theorem dX4_readLine_174 : decode cX4_readLine 174 = .ok (.invokevirtual 275, 3) := dk_182 1 19 (dk_at dksX4_readLine_7 11 rfl rfl)
theorem dX4_readLine_177 : decode cX4_readLine 177 = .ok (.return_, 1) := dk_177 (dk_at dksX4_readLine_7 14 rfl rfl)
abbrev cX4_isFull : ByteArray := prog_27_method_17_code
def yX4_isFull : MethodName := ⟨RX4, "isFull", "()Z"⟩
def dkwX4_isFull_5 : List UInt8 := [4, 167, 0, 4, 3, 172]
abbrev dktX4_isFull_5 : List UInt8 := dkwX4_isFull_5 ++ []
def dkwX4_isFull_4 : List UInt8 := [51, 172, 42, 20, 0, 171, 182, 1, 0, 153, 0, 15, 42, 180, 0, 55, 42, 180, 0, 241, 51, 153, 0, 7]
abbrev dktX4_isFull_4 : List UInt8 := dkwX4_isFull_4 ++ dktX4_isFull_5
def dkwX4_isFull_3 : List UInt8 := [4, 167, 0, 4, 3, 172, 42, 20, 0, 169, 182, 1, 0, 153, 0, 13, 42, 180, 0, 52, 42, 180, 0, 241]
abbrev dktX4_isFull_3 : List UInt8 := dkwX4_isFull_3 ++ dktX4_isFull_4
def dkwX4_isFull_2 : List UInt8 := [172, 42, 20, 0, 163, 182, 1, 0, 153, 0, 22, 42, 180, 0, 27, 42, 180, 0, 241, 46, 7, 160, 0, 7]
abbrev dktX4_isFull_2 : List UInt8 := dkwX4_isFull_2 ++ dktX4_isFull_3
def dkwX4_isFull_1 : List UInt8 := [167, 0, 4, 3, 172, 42, 20, 0, 161, 182, 1, 0, 153, 0, 13, 42, 180, 0, 48, 42, 180, 0, 241, 51]
abbrev dktX4_isFull_1 : List UInt8 := dkwX4_isFull_1 ++ dktX4_isFull_2
def dkwX4_isFull_0 : List UInt8 := [42, 20, 0, 159, 182, 1, 0, 153, 0, 21, 42, 180, 0, 39, 42, 180, 0, 241, 46, 158, 0, 7, 4]
abbrev dktX4_isFull_0 : List UInt8 := dkwX4_isFull_0 ++ dktX4_isFull_1
theorem dksX4_isFull_0 : cX4_isFull.data.toList.drop 0 = dktX4_isFull_0 := by decide +kernel
theorem dksX4_isFull_1 : cX4_isFull.data.toList.drop 23 = dktX4_isFull_1 := dk_seg dksX4_isFull_0 23 rfl rfl
theorem dksX4_isFull_2 : cX4_isFull.data.toList.drop 47 = dktX4_isFull_2 := dk_seg dksX4_isFull_1 24 rfl rfl
theorem dksX4_isFull_3 : cX4_isFull.data.toList.drop 71 = dktX4_isFull_3 := dk_seg dksX4_isFull_2 24 rfl rfl
theorem dksX4_isFull_4 : cX4_isFull.data.toList.drop 95 = dktX4_isFull_4 := dk_seg dksX4_isFull_3 24 rfl rfl
theorem dksX4_isFull_5 : cX4_isFull.data.toList.drop 119 = dktX4_isFull_5 := dk_seg dksX4_isFull_4 24 rfl rfl
theorem dX4_isFull_0 : decode cX4_isFull 0 = .ok (.aload_n 0, 1) := dk_42 (dk_at dksX4_isFull_0 0 rfl rfl)
theorem dX4_isFull_1 : decode cX4_isFull 1 = .ok (.ldc2_w 159, 3) := dk_20 0 159 (dk_at dksX4_isFull_0 1 rfl rfl)
theorem dX4_isFull_4 : decode cX4_isFull 4 = .ok (.invokevirtual 256, 3) := dk_182 1 0 (dk_at dksX4_isFull_0 4 rfl rfl)
theorem dX4_isFull_7 : decode cX4_isFull 7 = .ok (.ifCond .eq 21, 3) := dk_153 0 21 (dk_at dksX4_isFull_0 7 rfl rfl)
theorem dX4_isFull_10 : decode cX4_isFull 10 = .ok (.aload_n 0, 1) := dk_42 (dk_at dksX4_isFull_0 10 rfl rfl)
theorem dX4_isFull_11 : decode cX4_isFull 11 = .ok (.getfield 39, 3) := dk_180 0 39 (dk_at dksX4_isFull_0 11 rfl rfl)
theorem dX4_isFull_14 : decode cX4_isFull 14 = .ok (.aload_n 0, 1) := dk_42 (dk_at dksX4_isFull_0 14 rfl rfl)
theorem dX4_isFull_15 : decode cX4_isFull 15 = .ok (.getfield 241, 3) := dk_180 0 241 (dk_at dksX4_isFull_0 15 rfl rfl)
theorem dX4_isFull_18 : decode cX4_isFull 18 = .ok (.iaload, 1) := dk_46 (dk_at dksX4_isFull_0 18 rfl rfl)
theorem dX4_isFull_19 : decode cX4_isFull 19 = .ok (.ifCond .le 7, 3) := dk_158 0 7 (dk_at dksX4_isFull_0 19 rfl rfl)
theorem dX4_isFull_22 : decode cX4_isFull 22 = .ok (.iconst 1, 1) := dk_4 (dk_at dksX4_isFull_0 22 rfl rfl)
theorem dX4_isFull_23 : decode cX4_isFull 23 = .ok (.goto 4, 3) := dk_167 0 4 (dk_at dksX4_isFull_1 0 rfl rfl)
theorem dX4_isFull_26 : decode cX4_isFull 26 = .ok (.iconst 0, 1) := dk_3 (dk_at dksX4_isFull_1 3 rfl rfl)
theorem dX4_isFull_27 : decode cX4_isFull 27 = .ok (.ireturn, 1) := dk_172 (dk_at dksX4_isFull_1 4 rfl rfl)
theorem dX4_isFull_28 : decode cX4_isFull 28 = .ok (.aload_n 0, 1) := dk_42 (dk_at dksX4_isFull_1 5 rfl rfl)
theorem dX4_isFull_29 : decode cX4_isFull 29 = .ok (.ldc2_w 161, 3) := dk_20 0 161 (dk_at dksX4_isFull_1 6 rfl rfl)
theorem dX4_isFull_32 : decode cX4_isFull 32 = .ok (.invokevirtual 256, 3) := dk_182 1 0 (dk_at dksX4_isFull_1 9 rfl rfl)
theorem dX4_isFull_35 : decode cX4_isFull 35 = .ok (.ifCond .eq 13, 3) := dk_153 0 13 (dk_at dksX4_isFull_1 12 rfl rfl)
theorem dX4_isFull_38 : decode cX4_isFull 38 = .ok (.aload_n 0, 1) := dk_42 (dk_at dksX4_isFull_1 15 rfl rfl)
theorem dX4_isFull_39 : decode cX4_isFull 39 = .ok (.getfield 48, 3) := dk_180 0 48 (dk_at dksX4_isFull_1 16 rfl rfl)
theorem dX4_isFull_42 : decode cX4_isFull 42 = .ok (.aload_n 0, 1) := dk_42 (dk_at dksX4_isFull_1 19 rfl rfl)
theorem dX4_isFull_43 : decode cX4_isFull 43 = .ok (.getfield 241, 3) := dk_180 0 241 (dk_at dksX4_isFull_1 20 rfl rfl)
theorem dX4_isFull_46 : decode cX4_isFull 46 = .ok (.baload, 1) := dk_51 (dk_at dksX4_isFull_1 23 rfl rfl)
theorem dX4_isFull_47 : decode cX4_isFull 47 = .ok (.ireturn, 1) := dk_172 (dk_at dksX4_isFull_2 0 rfl rfl)
theorem dX4_isFull_48 : decode cX4_isFull 48 = .ok (.aload_n 0, 1) := dk_42 (dk_at dksX4_isFull_2 1 rfl rfl)
theorem dX4_isFull_49 : decode cX4_isFull 49 = .ok (.ldc2_w 163, 3) := dk_20 0 163 (dk_at dksX4_isFull_2 2 rfl rfl)
theorem dX4_isFull_52 : decode cX4_isFull 52 = .ok (.invokevirtual 256, 3) := dk_182 1 0 (dk_at dksX4_isFull_2 5 rfl rfl)
theorem dX4_isFull_55 : decode cX4_isFull 55 = .ok (.ifCond .eq 22, 3) := dk_153 0 22 (dk_at dksX4_isFull_2 8 rfl rfl)
theorem dX4_isFull_58 : decode cX4_isFull 58 = .ok (.aload_n 0, 1) := dk_42 (dk_at dksX4_isFull_2 11 rfl rfl)
theorem dX4_isFull_59 : decode cX4_isFull 59 = .ok (.getfield 27, 3) := dk_180 0 27 (dk_at dksX4_isFull_2 12 rfl rfl)
theorem dX4_isFull_62 : decode cX4_isFull 62 = .ok (.aload_n 0, 1) := dk_42 (dk_at dksX4_isFull_2 15 rfl rfl)
theorem dX4_isFull_63 : decode cX4_isFull 63 = .ok (.getfield 241, 3) := dk_180 0 241 (dk_at dksX4_isFull_2 16 rfl rfl)
theorem dX4_isFull_66 : decode cX4_isFull 66 = .ok (.iaload, 1) := dk_46 (dk_at dksX4_isFull_2 19 rfl rfl)
theorem dX4_isFull_67 : decode cX4_isFull 67 = .ok (.iconst 4, 1) := dk_7 (dk_at dksX4_isFull_2 20 rfl rfl)
theorem dX4_isFull_68 : decode cX4_isFull 68 = .ok (.if_icmp .ne 7, 3) := dk_160 0 7 (dk_at dksX4_isFull_2 21 rfl rfl)
theorem dX4_isFull_71 : decode cX4_isFull 71 = .ok (.iconst 1, 1) := dk_4 (dk_at dksX4_isFull_3 0 rfl rfl)
theorem dX4_isFull_72 : decode cX4_isFull 72 = .ok (.goto 4, 3) := dk_167 0 4 (dk_at dksX4_isFull_3 1 rfl rfl)
theorem dX4_isFull_75 : decode cX4_isFull 75 = .ok (.iconst 0, 1) := dk_3 (dk_at dksX4_isFull_3 4 rfl rfl)
theorem dX4_isFull_76 : decode cX4_isFull 76 = .ok (.ireturn, 1) := dk_172 (dk_at dksX4_isFull_3 5 rfl rfl)
theorem dX4_isFull_77 : decode cX4_isFull 77 = .ok (.aload_n 0, 1) := dk_42 (dk_at dksX4_isFull_3 6 rfl rfl)
theorem dX4_isFull_78 : decode cX4_isFull 78 = .ok (.ldc2_w 169, 3) := dk_20 0 169 (dk_at dksX4_isFull_3 7 rfl rfl)
theorem dX4_isFull_81 : decode cX4_isFull 81 = .ok (.invokevirtual 256, 3) := dk_182 1 0 (dk_at dksX4_isFull_3 10 rfl rfl)
theorem dX4_isFull_84 : decode cX4_isFull 84 = .ok (.ifCond .eq 13, 3) := dk_153 0 13 (dk_at dksX4_isFull_3 13 rfl rfl)
theorem dX4_isFull_87 : decode cX4_isFull 87 = .ok (.aload_n 0, 1) := dk_42 (dk_at dksX4_isFull_3 16 rfl rfl)
theorem dX4_isFull_88 : decode cX4_isFull 88 = .ok (.getfield 52, 3) := dk_180 0 52 (dk_at dksX4_isFull_3 17 rfl rfl)
theorem dX4_isFull_91 : decode cX4_isFull 91 = .ok (.aload_n 0, 1) := dk_42 (dk_at dksX4_isFull_3 20 rfl rfl)
theorem dX4_isFull_92 : decode cX4_isFull 92 = .ok (.getfield 241, 3) := dk_180 0 241 (dk_at dksX4_isFull_3 21 rfl rfl)
theorem dX4_isFull_95 : decode cX4_isFull 95 = .ok (.baload, 1) := dk_51 (dk_at dksX4_isFull_4 0 rfl rfl)
theorem dX4_isFull_96 : decode cX4_isFull 96 = .ok (.ireturn, 1) := dk_172 (dk_at dksX4_isFull_4 1 rfl rfl)
theorem dX4_isFull_97 : decode cX4_isFull 97 = .ok (.aload_n 0, 1) := dk_42 (dk_at dksX4_isFull_4 2 rfl rfl)
theorem dX4_isFull_98 : decode cX4_isFull 98 = .ok (.ldc2_w 171, 3) := dk_20 0 171 (dk_at dksX4_isFull_4 3 rfl rfl)
theorem dX4_isFull_101 : decode cX4_isFull 101 = .ok (.invokevirtual 256, 3) := dk_182 1 0 (dk_at dksX4_isFull_4 6 rfl rfl)
theorem dX4_isFull_104 : decode cX4_isFull 104 = .ok (.ifCond .eq 15, 3) := dk_153 0 15 (dk_at dksX4_isFull_4 9 rfl rfl)
theorem dX4_isFull_107 : decode cX4_isFull 107 = .ok (.aload_n 0, 1) := dk_42 (dk_at dksX4_isFull_4 12 rfl rfl)
theorem dX4_isFull_108 : decode cX4_isFull 108 = .ok (.getfield 55, 3) := dk_180 0 55 (dk_at dksX4_isFull_4 13 rfl rfl)
theorem dX4_isFull_111 : decode cX4_isFull 111 = .ok (.aload_n 0, 1) := dk_42 (dk_at dksX4_isFull_4 16 rfl rfl)
theorem dX4_isFull_112 : decode cX4_isFull 112 = .ok (.getfield 241, 3) := dk_180 0 241 (dk_at dksX4_isFull_4 17 rfl rfl)
theorem dX4_isFull_115 : decode cX4_isFull 115 = .ok (.baload, 1) := dk_51 (dk_at dksX4_isFull_4 20 rfl rfl)
theorem dX4_isFull_116 : decode cX4_isFull 116 = .ok (.ifCond .eq 7, 3) := dk_153 0 7 (dk_at dksX4_isFull_4 21 rfl rfl)
theorem dX4_isFull_119 : decode cX4_isFull 119 = .ok (.iconst 1, 1) := dk_4 (dk_at dksX4_isFull_5 0 rfl rfl)
theorem dX4_isFull_120 : decode cX4_isFull 120 = .ok (.goto 4, 3) := dk_167 0 4 (dk_at dksX4_isFull_5 1 rfl rfl)
theorem dX4_isFull_123 : decode cX4_isFull 123 = .ok (.iconst 0, 1) := dk_3 (dk_at dksX4_isFull_5 4 rfl rfl)
theorem dX4_isFull_124 : decode cX4_isFull 124 = .ok (.ireturn, 1) := dk_172 (dk_at dksX4_isFull_5 5 rfl rfl)
abbrev cX4_isWord : ByteArray := prog_27_method_11_code
def yX4_isWord : MethodName := ⟨RX4, "isWord", "(J)Z"⟩
def dkwX4_isWord_0 : List UInt8 := [42, 180, 0, 203, 6, 160, 0, 16, 42, 180, 0, 210, 31, 148, 154, 0, 7, 4, 167, 0, 4, 3, 172]
abbrev dktX4_isWord_0 : List UInt8 := dkwX4_isWord_0 ++ []
theorem dksX4_isWord_0 : cX4_isWord.data.toList.drop 0 = dktX4_isWord_0 := by decide +kernel
theorem dX4_isWord_0 : decode cX4_isWord 0 = .ok (.aload_n 0, 1) := dk_42 (dk_at dksX4_isWord_0 0 rfl rfl)
theorem dX4_isWord_1 : decode cX4_isWord 1 = .ok (.getfield 203, 3) := dk_180 0 203 (dk_at dksX4_isWord_0 1 rfl rfl)
theorem dX4_isWord_4 : decode cX4_isWord 4 = .ok (.iconst 3, 1) := dk_6 (dk_at dksX4_isWord_0 4 rfl rfl)
theorem dX4_isWord_5 : decode cX4_isWord 5 = .ok (.if_icmp .ne 16, 3) := dk_160 0 16 (dk_at dksX4_isWord_0 5 rfl rfl)
theorem dX4_isWord_8 : decode cX4_isWord 8 = .ok (.aload_n 0, 1) := dk_42 (dk_at dksX4_isWord_0 8 rfl rfl)
theorem dX4_isWord_9 : decode cX4_isWord 9 = .ok (.getfield 210, 3) := dk_180 0 210 (dk_at dksX4_isWord_0 9 rfl rfl)
theorem dX4_isWord_12 : decode cX4_isWord 12 = .ok (.lload_n 1, 1) := dk_31 (dk_at dksX4_isWord_0 12 rfl rfl)
theorem dX4_isWord_13 : decode cX4_isWord 13 = .ok (.lcmp, 1) := dk_148 (dk_at dksX4_isWord_0 13 rfl rfl)
theorem dX4_isWord_14 : decode cX4_isWord 14 = .ok (.ifCond .ne 7, 3) := dk_154 0 7 (dk_at dksX4_isWord_0 14 rfl rfl)
theorem dX4_isWord_17 : decode cX4_isWord 17 = .ok (.iconst 1, 1) := dk_4 (dk_at dksX4_isWord_0 17 rfl rfl)
theorem dX4_isWord_18 : decode cX4_isWord 18 = .ok (.goto 4, 3) := dk_167 0 4 (dk_at dksX4_isWord_0 18 rfl rfl)
theorem dX4_isWord_21 : decode cX4_isWord 21 = .ok (.iconst 0, 1) := dk_3 (dk_at dksX4_isWord_0 21 rfl rfl)
theorem dX4_isWord_22 : decode cX4_isWord 22 = .ok (.ireturn, 1) := dk_172 (dk_at dksX4_isWord_0 22 rfl rfl)
abbrev cX4_misplaced : ByteArray := prog_27_method_12_code
def yX4_misplaced : MethodName := ⟨RX4, "misplaced", "()V"⟩
def dkwX4_misplaced_0 : List UInt8 := [42, 42, 180, 0, 203, 4, 160, 0, 7, 4, 167, 0, 4, 5, 42, 180, 0, 196, 182, 0, 227, 177]
abbrev dktX4_misplaced_0 : List UInt8 := dkwX4_misplaced_0 ++ []
theorem dksX4_misplaced_0 : cX4_misplaced.data.toList.drop 0 = dktX4_misplaced_0 := by decide +kernel
theorem dX4_misplaced_0 : decode cX4_misplaced 0 = .ok (.aload_n 0, 1) := dk_42 (dk_at dksX4_misplaced_0 0 rfl rfl)
theorem dX4_misplaced_1 : decode cX4_misplaced 1 = .ok (.aload_n 0, 1) := dk_42 (dk_at dksX4_misplaced_0 1 rfl rfl)
theorem dX4_misplaced_2 : decode cX4_misplaced 2 = .ok (.getfield 203, 3) := dk_180 0 203 (dk_at dksX4_misplaced_0 2 rfl rfl)
theorem dX4_misplaced_5 : decode cX4_misplaced 5 = .ok (.iconst 1, 1) := dk_4 (dk_at dksX4_misplaced_0 5 rfl rfl)
theorem dX4_misplaced_6 : decode cX4_misplaced 6 = .ok (.if_icmp .ne 7, 3) := dk_160 0 7 (dk_at dksX4_misplaced_0 6 rfl rfl)
theorem dX4_misplaced_9 : decode cX4_misplaced 9 = .ok (.iconst 1, 1) := dk_4 (dk_at dksX4_misplaced_0 9 rfl rfl)
theorem dX4_misplaced_10 : decode cX4_misplaced 10 = .ok (.goto 4, 3) := dk_167 0 4 (dk_at dksX4_misplaced_0 10 rfl rfl)
theorem dX4_misplaced_13 : decode cX4_misplaced 13 = .ok (.iconst 2, 1) := dk_5 (dk_at dksX4_misplaced_0 13 rfl rfl)
theorem dX4_misplaced_14 : decode cX4_misplaced 14 = .ok (.aload_n 0, 1) := dk_42 (dk_at dksX4_misplaced_0 14 rfl rfl)
theorem dX4_misplaced_15 : decode cX4_misplaced 15 = .ok (.getfield 196, 3) := dk_180 0 196 (dk_at dksX4_misplaced_0 15 rfl rfl)
theorem dX4_misplaced_18 : decode cX4_misplaced 18 = .ok (.invokevirtual 227, 3) := dk_182 0 227 (dk_at dksX4_misplaced_0 18 rfl rfl)
theorem dX4_misplaced_21 : decode cX4_misplaced 21 = .ok (.return_, 1) := dk_177 (dk_at dksX4_misplaced_0 21 rfl rfl)
abbrev cX4_fails : ByteArray := prog_27_method_5_code
def yX4_fails : MethodName := ⟨RX4, "fails", "(II)V"⟩
def dkwX4_fails_0 : List UInt8 := [42, 180, 0, 156, 158, 0, 4, 177, 42, 27, 181, 0, 156, 42, 28, 181, 0, 16, 177]
abbrev dktX4_fails_0 : List UInt8 := dkwX4_fails_0 ++ []
theorem dksX4_fails_0 : cX4_fails.data.toList.drop 0 = dktX4_fails_0 := by decide +kernel
theorem dX4_fails_0 : decode cX4_fails 0 = .ok (.aload_n 0, 1) := dk_42 (dk_at dksX4_fails_0 0 rfl rfl)
theorem dX4_fails_1 : decode cX4_fails 1 = .ok (.getfield 156, 3) := dk_180 0 156 (dk_at dksX4_fails_0 1 rfl rfl)
theorem dX4_fails_4 : decode cX4_fails 4 = .ok (.ifCond .le 4, 3) := dk_158 0 4 (dk_at dksX4_fails_0 4 rfl rfl)
theorem dX4_fails_7 : decode cX4_fails 7 = .ok (.return_, 1) := dk_177 (dk_at dksX4_fails_0 7 rfl rfl)
theorem dX4_fails_8 : decode cX4_fails 8 = .ok (.aload_n 0, 1) := dk_42 (dk_at dksX4_fails_0 8 rfl rfl)
theorem dX4_fails_9 : decode cX4_fails 9 = .ok (.iload_n 1, 1) := dk_27 (dk_at dksX4_fails_0 9 rfl rfl)
theorem dX4_fails_10 : decode cX4_fails 10 = .ok (.putfield 156, 3) := dk_181 0 156 (dk_at dksX4_fails_0 10 rfl rfl)
theorem dX4_fails_13 : decode cX4_fails 13 = .ok (.aload_n 0, 1) := dk_42 (dk_at dksX4_fails_0 13 rfl rfl)
theorem dX4_fails_14 : decode cX4_fails 14 = .ok (.iload_n 2, 1) := dk_28 (dk_at dksX4_fails_0 14 rfl rfl)
theorem dX4_fails_15 : decode cX4_fails 15 = .ok (.putfield 16, 3) := dk_181 0 16 (dk_at dksX4_fails_0 15 rfl rfl)
theorem dX4_fails_18 : decode cX4_fails 18 = .ok (.return_, 1) := dk_177 (dk_at dksX4_fails_0 18 rfl rfl)
abbrev cX4_numeral : ByteArray := prog_27_method_14_code
def yX4_numeral : MethodName := ⟨RX4, "numeral", "(II)I"⟩
def dkwX4_numeral_3 : List UInt8 := [182, 0, 231, 153, 0, 7, 29, 167, 0, 4, 27, 172]
abbrev dktX4_numeral_3 : List UInt8 := dkwX4_numeral_3 ++ []
def dkwX4_numeral_2 : List UInt8 := [42, 180, 0, 196, 182, 0, 227, 42, 180, 0, 221, 62, 42, 182, 0, 231, 153, 0, 7, 42, 182, 0, 235, 42]
abbrev dktX4_numeral_2 : List UInt8 := dkwX4_numeral_2 ++ dktX4_numeral_3
def dkwX4_numeral_1 : List UInt8 := [182, 0, 231, 153, 0, 28, 42, 180, 0, 221, 27, 161, 0, 11, 42, 180, 0, 221, 28, 164, 0, 12, 42, 7]
abbrev dktX4_numeral_1 : List UInt8 := dkwX4_numeral_1 ++ dktX4_numeral_2
def dkwX4_numeral_0 : List UInt8 := [42, 182, 0, 231, 154, 0, 5, 27, 172, 42, 180, 0, 203, 7, 159, 0, 7, 42, 182, 0, 238, 42]
abbrev dktX4_numeral_0 : List UInt8 := dkwX4_numeral_0 ++ dktX4_numeral_1
theorem dksX4_numeral_0 : cX4_numeral.data.toList.drop 0 = dktX4_numeral_0 := by decide +kernel
theorem dksX4_numeral_1 : cX4_numeral.data.toList.drop 22 = dktX4_numeral_1 := dk_seg dksX4_numeral_0 22 rfl rfl
theorem dksX4_numeral_2 : cX4_numeral.data.toList.drop 46 = dktX4_numeral_2 := dk_seg dksX4_numeral_1 24 rfl rfl
theorem dksX4_numeral_3 : cX4_numeral.data.toList.drop 70 = dktX4_numeral_3 := dk_seg dksX4_numeral_2 24 rfl rfl
theorem dX4_numeral_0 : decode cX4_numeral 0 = .ok (.aload_n 0, 1) := dk_42 (dk_at dksX4_numeral_0 0 rfl rfl)
theorem dX4_numeral_1 : decode cX4_numeral 1 = .ok (.invokevirtual 231, 3) := dk_182 0 231 (dk_at dksX4_numeral_0 1 rfl rfl)
theorem dX4_numeral_4 : decode cX4_numeral 4 = .ok (.ifCond .ne 5, 3) := dk_154 0 5 (dk_at dksX4_numeral_0 4 rfl rfl)
theorem dX4_numeral_7 : decode cX4_numeral 7 = .ok (.iload_n 1, 1) := dk_27 (dk_at dksX4_numeral_0 7 rfl rfl)
theorem dX4_numeral_8 : decode cX4_numeral 8 = .ok (.ireturn, 1) := dk_172 (dk_at dksX4_numeral_0 8 rfl rfl)
theorem dX4_numeral_9 : decode cX4_numeral 9 = .ok (.aload_n 0, 1) := dk_42 (dk_at dksX4_numeral_0 9 rfl rfl)
theorem dX4_numeral_10 : decode cX4_numeral 10 = .ok (.getfield 203, 3) := dk_180 0 203 (dk_at dksX4_numeral_0 10 rfl rfl)
theorem dX4_numeral_13 : decode cX4_numeral 13 = .ok (.iconst 4, 1) := dk_7 (dk_at dksX4_numeral_0 13 rfl rfl)
theorem dX4_numeral_14 : decode cX4_numeral 14 = .ok (.if_icmp .eq 7, 3) := dk_159 0 7 (dk_at dksX4_numeral_0 14 rfl rfl)
theorem dX4_numeral_17 : decode cX4_numeral 17 = .ok (.aload_n 0, 1) := dk_42 (dk_at dksX4_numeral_0 17 rfl rfl)
theorem dX4_numeral_18 : decode cX4_numeral 18 = .ok (.invokevirtual 238, 3) := dk_182 0 238 (dk_at dksX4_numeral_0 18 rfl rfl)
theorem dX4_numeral_21 : decode cX4_numeral 21 = .ok (.aload_n 0, 1) := dk_42 (dk_at dksX4_numeral_0 21 rfl rfl)
theorem dX4_numeral_22 : decode cX4_numeral 22 = .ok (.invokevirtual 231, 3) := dk_182 0 231 (dk_at dksX4_numeral_1 0 rfl rfl)
theorem dX4_numeral_25 : decode cX4_numeral 25 = .ok (.ifCond .eq 28, 3) := dk_153 0 28 (dk_at dksX4_numeral_1 3 rfl rfl)
theorem dX4_numeral_28 : decode cX4_numeral 28 = .ok (.aload_n 0, 1) := dk_42 (dk_at dksX4_numeral_1 6 rfl rfl)
theorem dX4_numeral_29 : decode cX4_numeral 29 = .ok (.getfield 221, 3) := dk_180 0 221 (dk_at dksX4_numeral_1 7 rfl rfl)
theorem dX4_numeral_32 : decode cX4_numeral 32 = .ok (.iload_n 1, 1) := dk_27 (dk_at dksX4_numeral_1 10 rfl rfl)
theorem dX4_numeral_33 : decode cX4_numeral 33 = .ok (.if_icmp .lt 11, 3) := dk_161 0 11 (dk_at dksX4_numeral_1 11 rfl rfl)
theorem dX4_numeral_36 : decode cX4_numeral 36 = .ok (.aload_n 0, 1) := dk_42 (dk_at dksX4_numeral_1 14 rfl rfl)
theorem dX4_numeral_37 : decode cX4_numeral 37 = .ok (.getfield 221, 3) := dk_180 0 221 (dk_at dksX4_numeral_1 15 rfl rfl)
theorem dX4_numeral_40 : decode cX4_numeral 40 = .ok (.iload_n 2, 1) := dk_28 (dk_at dksX4_numeral_1 18 rfl rfl)
theorem dX4_numeral_41 : decode cX4_numeral 41 = .ok (.if_icmp .le 12, 3) := dk_164 0 12 (dk_at dksX4_numeral_1 19 rfl rfl)
theorem dX4_numeral_44 : decode cX4_numeral 44 = .ok (.aload_n 0, 1) := dk_42 (dk_at dksX4_numeral_1 22 rfl rfl)
theorem dX4_numeral_45 : decode cX4_numeral 45 = .ok (.iconst 4, 1) := dk_7 (dk_at dksX4_numeral_1 23 rfl rfl)
theorem dX4_numeral_46 : decode cX4_numeral 46 = .ok (.aload_n 0, 1) := dk_42 (dk_at dksX4_numeral_2 0 rfl rfl)
theorem dX4_numeral_47 : decode cX4_numeral 47 = .ok (.getfield 196, 3) := dk_180 0 196 (dk_at dksX4_numeral_2 1 rfl rfl)
theorem dX4_numeral_50 : decode cX4_numeral 50 = .ok (.invokevirtual 227, 3) := dk_182 0 227 (dk_at dksX4_numeral_2 4 rfl rfl)
theorem dX4_numeral_53 : decode cX4_numeral 53 = .ok (.aload_n 0, 1) := dk_42 (dk_at dksX4_numeral_2 7 rfl rfl)
theorem dX4_numeral_54 : decode cX4_numeral 54 = .ok (.getfield 221, 3) := dk_180 0 221 (dk_at dksX4_numeral_2 8 rfl rfl)
theorem dX4_numeral_57 : decode cX4_numeral 57 = .ok (.istore_n 3, 1) := dk_62 (dk_at dksX4_numeral_2 11 rfl rfl)
theorem dX4_numeral_58 : decode cX4_numeral 58 = .ok (.aload_n 0, 1) := dk_42 (dk_at dksX4_numeral_2 12 rfl rfl)
theorem dX4_numeral_59 : decode cX4_numeral 59 = .ok (.invokevirtual 231, 3) := dk_182 0 231 (dk_at dksX4_numeral_2 13 rfl rfl)
theorem dX4_numeral_62 : decode cX4_numeral 62 = .ok (.ifCond .eq 7, 3) := dk_153 0 7 (dk_at dksX4_numeral_2 16 rfl rfl)
theorem dX4_numeral_65 : decode cX4_numeral 65 = .ok (.aload_n 0, 1) := dk_42 (dk_at dksX4_numeral_2 19 rfl rfl)
theorem dX4_numeral_66 : decode cX4_numeral 66 = .ok (.invokevirtual 235, 3) := dk_182 0 235 (dk_at dksX4_numeral_2 20 rfl rfl)
theorem dX4_numeral_69 : decode cX4_numeral 69 = .ok (.aload_n 0, 1) := dk_42 (dk_at dksX4_numeral_2 23 rfl rfl)
theorem dX4_numeral_70 : decode cX4_numeral 70 = .ok (.invokevirtual 231, 3) := dk_182 0 231 (dk_at dksX4_numeral_3 0 rfl rfl)
theorem dX4_numeral_73 : decode cX4_numeral 73 = .ok (.ifCond .eq 7, 3) := dk_153 0 7 (dk_at dksX4_numeral_3 3 rfl rfl)
theorem dX4_numeral_76 : decode cX4_numeral 76 = .ok (.iload_n 3, 1) := dk_29 (dk_at dksX4_numeral_3 6 rfl rfl)
theorem dX4_numeral_77 : decode cX4_numeral 77 = .ok (.goto 4, 3) := dk_167 0 4 (dk_at dksX4_numeral_3 7 rfl rfl)
theorem dX4_numeral_80 : decode cX4_numeral 80 = .ok (.iload_n 1, 1) := dk_27 (dk_at dksX4_numeral_3 10 rfl rfl)
theorem dX4_numeral_81 : decode cX4_numeral 81 = .ok (.ireturn, 1) := dk_172 (dk_at dksX4_numeral_3 11 rfl rfl)
abbrev cX4_readFirst : ByteArray := prog_27_method_19_code
def yX4_readFirst : MethodName := ⟨RX4, "readFirst", "()V"⟩
def dkwX4_readFirst_4 : List UInt8 := [180, 0, 203, 7, 160, 0, 7, 4, 167, 0, 4, 3, 60, 167, 255, 163, 177]
abbrev dktX4_readFirst_4 : List UInt8 := dkwX4_readFirst_4 ++ []
def dkwX4_readFirst_3 : List UInt8 := [42, 6, 28, 182, 0, 227, 42, 180, 0, 24, 42, 180, 0, 241, 92, 46, 4, 29, 120, 128, 79, 42]
abbrev dktX4_readFirst_3 : List UInt8 := dkwX4_readFirst_3 ++ dktX4_readFirst_4
def dkwX4_readFirst_2 : List UInt8 := [182, 0, 231, 154, 0, 4, 177, 42, 180, 0, 24, 42, 180, 0, 241, 46, 29, 122, 4, 126, 4, 160, 0, 9]
abbrev dktX4_readFirst_2 : List UInt8 := dkwX4_readFirst_2 ++ dktX4_readFirst_3
def dkwX4_readFirst_1 : List UInt8 := [180, 0, 196, 61, 42, 3, 42, 180, 0, 20, 42, 180, 0, 241, 46, 4, 100, 182, 1, 6, 62, 42]
abbrev dktX4_readFirst_1 : List UInt8 := dkwX4_readFirst_1 ++ dktX4_readFirst_2
def dkwX4_readFirst_0 : List UInt8 := [42, 180, 0, 48, 42, 180, 0, 241, 4, 84, 4, 60, 42, 182, 0, 231, 153, 0, 92, 27, 153, 0, 88, 42]
abbrev dktX4_readFirst_0 : List UInt8 := dkwX4_readFirst_0 ++ dktX4_readFirst_1
theorem dksX4_readFirst_0 : cX4_readFirst.data.toList.drop 0 = dktX4_readFirst_0 := by decide +kernel
theorem dksX4_readFirst_1 : cX4_readFirst.data.toList.drop 24 = dktX4_readFirst_1 := dk_seg dksX4_readFirst_0 24 rfl rfl
theorem dksX4_readFirst_2 : cX4_readFirst.data.toList.drop 46 = dktX4_readFirst_2 := dk_seg dksX4_readFirst_1 22 rfl rfl
theorem dksX4_readFirst_3 : cX4_readFirst.data.toList.drop 70 = dktX4_readFirst_3 := dk_seg dksX4_readFirst_2 24 rfl rfl
theorem dksX4_readFirst_4 : cX4_readFirst.data.toList.drop 92 = dktX4_readFirst_4 := dk_seg dksX4_readFirst_3 22 rfl rfl
theorem dX4_readFirst_0 : decode cX4_readFirst 0 = .ok (.aload_n 0, 1) := dk_42 (dk_at dksX4_readFirst_0 0 rfl rfl)
theorem dX4_readFirst_1 : decode cX4_readFirst 1 = .ok (.getfield 48, 3) := dk_180 0 48 (dk_at dksX4_readFirst_0 1 rfl rfl)
theorem dX4_readFirst_4 : decode cX4_readFirst 4 = .ok (.aload_n 0, 1) := dk_42 (dk_at dksX4_readFirst_0 4 rfl rfl)
theorem dX4_readFirst_5 : decode cX4_readFirst 5 = .ok (.getfield 241, 3) := dk_180 0 241 (dk_at dksX4_readFirst_0 5 rfl rfl)
theorem dX4_readFirst_8 : decode cX4_readFirst 8 = .ok (.iconst 1, 1) := dk_4 (dk_at dksX4_readFirst_0 8 rfl rfl)
theorem dX4_readFirst_9 : decode cX4_readFirst 9 = .ok (.bastore, 1) := dk_84 (dk_at dksX4_readFirst_0 9 rfl rfl)
theorem dX4_readFirst_10 : decode cX4_readFirst 10 = .ok (.iconst 1, 1) := dk_4 (dk_at dksX4_readFirst_0 10 rfl rfl)
theorem dX4_readFirst_11 : decode cX4_readFirst 11 = .ok (.istore_n 1, 1) := dk_60 (dk_at dksX4_readFirst_0 11 rfl rfl)
theorem dX4_readFirst_12 : decode cX4_readFirst 12 = .ok (.aload_n 0, 1) := dk_42 (dk_at dksX4_readFirst_0 12 rfl rfl)
theorem dX4_readFirst_13 : decode cX4_readFirst 13 = .ok (.invokevirtual 231, 3) := dk_182 0 231 (dk_at dksX4_readFirst_0 13 rfl rfl)
theorem dX4_readFirst_16 : decode cX4_readFirst 16 = .ok (.ifCond .eq 92, 3) := dk_153 0 92 (dk_at dksX4_readFirst_0 16 rfl rfl)
theorem dX4_readFirst_19 : decode cX4_readFirst 19 = .ok (.iload_n 1, 1) := dk_27 (dk_at dksX4_readFirst_0 19 rfl rfl)
theorem dX4_readFirst_20 : decode cX4_readFirst 20 = .ok (.ifCond .eq 88, 3) := dk_153 0 88 (dk_at dksX4_readFirst_0 20 rfl rfl)
theorem dX4_readFirst_23 : decode cX4_readFirst 23 = .ok (.aload_n 0, 1) := dk_42 (dk_at dksX4_readFirst_0 23 rfl rfl)
theorem dX4_readFirst_24 : decode cX4_readFirst 24 = .ok (.getfield 196, 3) := dk_180 0 196 (dk_at dksX4_readFirst_1 0 rfl rfl)
theorem dX4_readFirst_27 : decode cX4_readFirst 27 = .ok (.istore_n 2, 1) := dk_61 (dk_at dksX4_readFirst_1 3 rfl rfl)
theorem dX4_readFirst_28 : decode cX4_readFirst 28 = .ok (.aload_n 0, 1) := dk_42 (dk_at dksX4_readFirst_1 4 rfl rfl)
theorem dX4_readFirst_29 : decode cX4_readFirst 29 = .ok (.iconst 0, 1) := dk_3 (dk_at dksX4_readFirst_1 5 rfl rfl)
theorem dX4_readFirst_30 : decode cX4_readFirst 30 = .ok (.aload_n 0, 1) := dk_42 (dk_at dksX4_readFirst_1 6 rfl rfl)
theorem dX4_readFirst_31 : decode cX4_readFirst 31 = .ok (.getfield 20, 3) := dk_180 0 20 (dk_at dksX4_readFirst_1 7 rfl rfl)
theorem dX4_readFirst_34 : decode cX4_readFirst 34 = .ok (.aload_n 0, 1) := dk_42 (dk_at dksX4_readFirst_1 10 rfl rfl)
theorem dX4_readFirst_35 : decode cX4_readFirst 35 = .ok (.getfield 241, 3) := dk_180 0 241 (dk_at dksX4_readFirst_1 11 rfl rfl)
theorem dX4_readFirst_38 : decode cX4_readFirst 38 = .ok (.iaload, 1) := dk_46 (dk_at dksX4_readFirst_1 14 rfl rfl)
theorem dX4_readFirst_39 : decode cX4_readFirst 39 = .ok (.iconst 1, 1) := dk_4 (dk_at dksX4_readFirst_1 15 rfl rfl)
theorem dX4_readFirst_40 : decode cX4_readFirst 40 = .ok (.isub, 1) := dk_100 (dk_at dksX4_readFirst_1 16 rfl rfl)
theorem dX4_readFirst_41 : decode cX4_readFirst 41 = .ok (.invokevirtual 262, 3) := dk_182 1 6 (dk_at dksX4_readFirst_1 17 rfl rfl)
theorem dX4_readFirst_44 : decode cX4_readFirst 44 = .ok (.istore_n 3, 1) := dk_62 (dk_at dksX4_readFirst_1 20 rfl rfl)
theorem dX4_readFirst_45 : decode cX4_readFirst 45 = .ok (.aload_n 0, 1) := dk_42 (dk_at dksX4_readFirst_1 21 rfl rfl)
theorem dX4_readFirst_46 : decode cX4_readFirst 46 = .ok (.invokevirtual 231, 3) := dk_182 0 231 (dk_at dksX4_readFirst_2 0 rfl rfl)
theorem dX4_readFirst_49 : decode cX4_readFirst 49 = .ok (.ifCond .ne 4, 3) := dk_154 0 4 (dk_at dksX4_readFirst_2 3 rfl rfl)
theorem dX4_readFirst_52 : decode cX4_readFirst 52 = .ok (.return_, 1) := dk_177 (dk_at dksX4_readFirst_2 6 rfl rfl)
theorem dX4_readFirst_53 : decode cX4_readFirst 53 = .ok (.aload_n 0, 1) := dk_42 (dk_at dksX4_readFirst_2 7 rfl rfl)
theorem dX4_readFirst_54 : decode cX4_readFirst 54 = .ok (.getfield 24, 3) := dk_180 0 24 (dk_at dksX4_readFirst_2 8 rfl rfl)
theorem dX4_readFirst_57 : decode cX4_readFirst 57 = .ok (.aload_n 0, 1) := dk_42 (dk_at dksX4_readFirst_2 11 rfl rfl)
theorem dX4_readFirst_58 : decode cX4_readFirst 58 = .ok (.getfield 241, 3) := dk_180 0 241 (dk_at dksX4_readFirst_2 12 rfl rfl)
theorem dX4_readFirst_61 : decode cX4_readFirst 61 = .ok (.iaload, 1) := dk_46 (dk_at dksX4_readFirst_2 15 rfl rfl)
theorem dX4_readFirst_62 : decode cX4_readFirst 62 = .ok (.iload_n 3, 1) := dk_29 (dk_at dksX4_readFirst_2 16 rfl rfl)
theorem dX4_readFirst_63 : decode cX4_readFirst 63 = .ok (.ishr, 1) := dk_122 (dk_at dksX4_readFirst_2 17 rfl rfl)
theorem dX4_readFirst_64 : decode cX4_readFirst 64 = .ok (.iconst 1, 1) := dk_4 (dk_at dksX4_readFirst_2 18 rfl rfl)
theorem dX4_readFirst_65 : decode cX4_readFirst 65 = .ok (.iand, 1) := dk_126 (dk_at dksX4_readFirst_2 19 rfl rfl)
theorem dX4_readFirst_66 : decode cX4_readFirst 66 = .ok (.iconst 1, 1) := dk_4 (dk_at dksX4_readFirst_2 20 rfl rfl)
theorem dX4_readFirst_67 : decode cX4_readFirst 67 = .ok (.if_icmp .ne 9, 3) := dk_160 0 9 (dk_at dksX4_readFirst_2 21 rfl rfl)
theorem dX4_readFirst_70 : decode cX4_readFirst 70 = .ok (.aload_n 0, 1) := dk_42 (dk_at dksX4_readFirst_3 0 rfl rfl)
theorem dX4_readFirst_71 : decode cX4_readFirst 71 = .ok (.iconst 3, 1) := dk_6 (dk_at dksX4_readFirst_3 1 rfl rfl)
theorem dX4_readFirst_72 : decode cX4_readFirst 72 = .ok (.iload_n 2, 1) := dk_28 (dk_at dksX4_readFirst_3 2 rfl rfl)
theorem dX4_readFirst_73 : decode cX4_readFirst 73 = .ok (.invokevirtual 227, 3) := dk_182 0 227 (dk_at dksX4_readFirst_3 3 rfl rfl)
theorem dX4_readFirst_76 : decode cX4_readFirst 76 = .ok (.aload_n 0, 1) := dk_42 (dk_at dksX4_readFirst_3 6 rfl rfl)
theorem dX4_readFirst_77 : decode cX4_readFirst 77 = .ok (.getfield 24, 3) := dk_180 0 24 (dk_at dksX4_readFirst_3 7 rfl rfl)
theorem dX4_readFirst_80 : decode cX4_readFirst 80 = .ok (.aload_n 0, 1) := dk_42 (dk_at dksX4_readFirst_3 10 rfl rfl)
theorem dX4_readFirst_81 : decode cX4_readFirst 81 = .ok (.getfield 241, 3) := dk_180 0 241 (dk_at dksX4_readFirst_3 11 rfl rfl)
theorem dX4_readFirst_84 : decode cX4_readFirst 84 = .ok (.dup2, 1) := dk_92 (dk_at dksX4_readFirst_3 14 rfl rfl)
theorem dX4_readFirst_85 : decode cX4_readFirst 85 = .ok (.iaload, 1) := dk_46 (dk_at dksX4_readFirst_3 15 rfl rfl)
theorem dX4_readFirst_86 : decode cX4_readFirst 86 = .ok (.iconst 1, 1) := dk_4 (dk_at dksX4_readFirst_3 16 rfl rfl)
theorem dX4_readFirst_87 : decode cX4_readFirst 87 = .ok (.iload_n 3, 1) := dk_29 (dk_at dksX4_readFirst_3 17 rfl rfl)
theorem dX4_readFirst_88 : decode cX4_readFirst 88 = .ok (.ishl, 1) := dk_120 (dk_at dksX4_readFirst_3 18 rfl rfl)
theorem dX4_readFirst_89 : decode cX4_readFirst 89 = .ok (.ior, 1) := dk_128 (dk_at dksX4_readFirst_3 19 rfl rfl)
theorem dX4_readFirst_90 : decode cX4_readFirst 90 = .ok (.iastore, 1) := dk_79 (dk_at dksX4_readFirst_3 20 rfl rfl)
theorem dX4_readFirst_91 : decode cX4_readFirst 91 = .ok (.aload_n 0, 1) := dk_42 (dk_at dksX4_readFirst_3 21 rfl rfl)
theorem dX4_readFirst_92 : decode cX4_readFirst 92 = .ok (.getfield 203, 3) := dk_180 0 203 (dk_at dksX4_readFirst_4 0 rfl rfl)
theorem dX4_readFirst_95 : decode cX4_readFirst 95 = .ok (.iconst 4, 1) := dk_7 (dk_at dksX4_readFirst_4 3 rfl rfl)
theorem dX4_readFirst_96 : decode cX4_readFirst 96 = .ok (.if_icmp .ne 7, 3) := dk_160 0 7 (dk_at dksX4_readFirst_4 4 rfl rfl)
theorem dX4_readFirst_99 : decode cX4_readFirst 99 = .ok (.iconst 1, 1) := dk_4 (dk_at dksX4_readFirst_4 7 rfl rfl)
theorem dX4_readFirst_100 : decode cX4_readFirst 100 = .ok (.goto 4, 3) := dk_167 0 4 (dk_at dksX4_readFirst_4 8 rfl rfl)
theorem dX4_readFirst_103 : decode cX4_readFirst 103 = .ok (.iconst 0, 1) := dk_3 (dk_at dksX4_readFirst_4 11 rfl rfl)
theorem dX4_readFirst_104 : decode cX4_readFirst 104 = .ok (.istore_n 1, 1) := dk_60 (dk_at dksX4_readFirst_4 12 rfl rfl)
theorem dX4_readFirst_105 : decode cX4_readFirst 105 = .ok (.goto (-93), 3) := dk_167 255 163 (dk_at dksX4_readFirst_4 13 rfl rfl)
theorem dX4_readFirst_108 : decode cX4_readFirst 108 = .ok (.return_, 1) := dk_177 (dk_at dksX4_readFirst_4 16 rfl rfl)
abbrev cX4_readHand : ByteArray := prog_27_method_21_code
def yX4_readHand : MethodName := ⟨RX4, "readHand", "()V"⟩
def dkwX4_readHand_6 : List UInt8 := [180, 0, 27, 42, 180, 0, 241, 92, 46, 4, 96, 79, 177]
abbrev dktX4_readHand_6 : List UInt8 := dkwX4_readHand_6 ++ []
def dkwX4_readHand_5 : List UInt8 := [182, 0, 231, 153, 0, 20, 42, 5, 42, 180, 0, 27, 42, 180, 0, 241, 46, 104, 4, 96, 182, 1, 27, 42]
abbrev dktX4_readHand_5 : List UInt8 := dkwX4_readHand_5 ++ dktX4_readHand_6
def dkwX4_readHand_4 : List UInt8 := [180, 0, 27, 42, 180, 0, 241, 46, 104, 182, 1, 27, 42, 42, 20, 0, 167, 182, 1, 0, 182, 1, 19, 42]
abbrev dktX4_readHand_4 : List UInt8 := dkwX4_readHand_4 ++ dktX4_readHand_5
def dkwX4_readHand_3 : List UInt8 := [182, 0, 235, 42, 42, 20, 0, 165, 182, 1, 0, 182, 1, 19, 42, 182, 0, 231, 153, 0, 18, 42, 5, 42]
abbrev dktX4_readHand_3 : List UInt8 := dkwX4_readHand_3 ++ dktX4_readHand_4
def dkwX4_readHand_2 : List UInt8 := [182, 0, 227, 42, 182, 0, 231, 154, 0, 4, 177, 42, 180, 0, 58, 27, 42, 180, 0, 210, 80, 42]
abbrev dktX4_readHand_2 : List UInt8 := dkwX4_readHand_2 ++ dktX4_readHand_3
def dkwX4_readHand_1 : List UInt8 := [159, 0, 10, 42, 182, 0, 238, 167, 0, 19, 42, 182, 1, 23, 155, 0, 12, 42, 6, 42, 180, 0, 196]
abbrev dktX4_readHand_1 : List UInt8 := dkwX4_readHand_1 ++ dktX4_readHand_2
def dkwX4_readHand_0 : List UInt8 := [7, 42, 180, 0, 241, 104, 42, 180, 0, 27, 42, 180, 0, 241, 46, 96, 60, 42, 180, 0, 203, 5]
abbrev dktX4_readHand_0 : List UInt8 := dkwX4_readHand_0 ++ dktX4_readHand_1
theorem dksX4_readHand_0 : cX4_readHand.data.toList.drop 0 = dktX4_readHand_0 := by decide +kernel
theorem dksX4_readHand_1 : cX4_readHand.data.toList.drop 22 = dktX4_readHand_1 := dk_seg dksX4_readHand_0 22 rfl rfl
theorem dksX4_readHand_2 : cX4_readHand.data.toList.drop 45 = dktX4_readHand_2 := dk_seg dksX4_readHand_1 23 rfl rfl
theorem dksX4_readHand_3 : cX4_readHand.data.toList.drop 67 = dktX4_readHand_3 := dk_seg dksX4_readHand_2 22 rfl rfl
theorem dksX4_readHand_4 : cX4_readHand.data.toList.drop 91 = dktX4_readHand_4 := dk_seg dksX4_readHand_3 24 rfl rfl
theorem dksX4_readHand_5 : cX4_readHand.data.toList.drop 115 = dktX4_readHand_5 := dk_seg dksX4_readHand_4 24 rfl rfl
theorem dksX4_readHand_6 : cX4_readHand.data.toList.drop 139 = dktX4_readHand_6 := dk_seg dksX4_readHand_5 24 rfl rfl
theorem dX4_readHand_0 : decode cX4_readHand 0 = .ok (.iconst 4, 1) := dk_7 (dk_at dksX4_readHand_0 0 rfl rfl)
theorem dX4_readHand_1 : decode cX4_readHand 1 = .ok (.aload_n 0, 1) := dk_42 (dk_at dksX4_readHand_0 1 rfl rfl)
theorem dX4_readHand_2 : decode cX4_readHand 2 = .ok (.getfield 241, 3) := dk_180 0 241 (dk_at dksX4_readHand_0 2 rfl rfl)
theorem dX4_readHand_5 : decode cX4_readHand 5 = .ok (.imul, 1) := dk_104 (dk_at dksX4_readHand_0 5 rfl rfl)
theorem dX4_readHand_6 : decode cX4_readHand 6 = .ok (.aload_n 0, 1) := dk_42 (dk_at dksX4_readHand_0 6 rfl rfl)
theorem dX4_readHand_7 : decode cX4_readHand 7 = .ok (.getfield 27, 3) := dk_180 0 27 (dk_at dksX4_readHand_0 7 rfl rfl)
theorem dX4_readHand_10 : decode cX4_readHand 10 = .ok (.aload_n 0, 1) := dk_42 (dk_at dksX4_readHand_0 10 rfl rfl)
theorem dX4_readHand_11 : decode cX4_readHand 11 = .ok (.getfield 241, 3) := dk_180 0 241 (dk_at dksX4_readHand_0 11 rfl rfl)
theorem dX4_readHand_14 : decode cX4_readHand 14 = .ok (.iaload, 1) := dk_46 (dk_at dksX4_readHand_0 14 rfl rfl)
theorem dX4_readHand_15 : decode cX4_readHand 15 = .ok (.iadd, 1) := dk_96 (dk_at dksX4_readHand_0 15 rfl rfl)
theorem dX4_readHand_16 : decode cX4_readHand 16 = .ok (.istore_n 1, 1) := dk_60 (dk_at dksX4_readHand_0 16 rfl rfl)
theorem dX4_readHand_17 : decode cX4_readHand 17 = .ok (.aload_n 0, 1) := dk_42 (dk_at dksX4_readHand_0 17 rfl rfl)
theorem dX4_readHand_18 : decode cX4_readHand 18 = .ok (.getfield 203, 3) := dk_180 0 203 (dk_at dksX4_readHand_0 18 rfl rfl)
theorem dX4_readHand_21 : decode cX4_readHand 21 = .ok (.iconst 2, 1) := dk_5 (dk_at dksX4_readHand_0 21 rfl rfl)
theorem dX4_readHand_22 : decode cX4_readHand 22 = .ok (.if_icmp .eq 10, 3) := dk_159 0 10 (dk_at dksX4_readHand_1 0 rfl rfl)
theorem dX4_readHand_25 : decode cX4_readHand 25 = .ok (.aload_n 0, 1) := dk_42 (dk_at dksX4_readHand_1 3 rfl rfl)
theorem dX4_readHand_26 : decode cX4_readHand 26 = .ok (.invokevirtual 238, 3) := dk_182 0 238 (dk_at dksX4_readHand_1 4 rfl rfl)
theorem dX4_readHand_29 : decode cX4_readHand 29 = .ok (.goto 19, 3) := dk_167 0 19 (dk_at dksX4_readHand_1 7 rfl rfl)
theorem dX4_readHand_32 : decode cX4_readHand 32 = .ok (.aload_n 0, 1) := dk_42 (dk_at dksX4_readHand_1 10 rfl rfl)
theorem dX4_readHand_33 : decode cX4_readHand 33 = .ok (.invokevirtual 279, 3) := dk_182 1 23 (dk_at dksX4_readHand_1 11 rfl rfl)
theorem dX4_readHand_36 : decode cX4_readHand 36 = .ok (.ifCond .lt 12, 3) := dk_155 0 12 (dk_at dksX4_readHand_1 14 rfl rfl)
theorem dX4_readHand_39 : decode cX4_readHand 39 = .ok (.aload_n 0, 1) := dk_42 (dk_at dksX4_readHand_1 17 rfl rfl)
theorem dX4_readHand_40 : decode cX4_readHand 40 = .ok (.iconst 3, 1) := dk_6 (dk_at dksX4_readHand_1 18 rfl rfl)
theorem dX4_readHand_41 : decode cX4_readHand 41 = .ok (.aload_n 0, 1) := dk_42 (dk_at dksX4_readHand_1 19 rfl rfl)
theorem dX4_readHand_42 : decode cX4_readHand 42 = .ok (.getfield 196, 3) := dk_180 0 196 (dk_at dksX4_readHand_1 20 rfl rfl)
theorem dX4_readHand_45 : decode cX4_readHand 45 = .ok (.invokevirtual 227, 3) := dk_182 0 227 (dk_at dksX4_readHand_2 0 rfl rfl)
theorem dX4_readHand_48 : decode cX4_readHand 48 = .ok (.aload_n 0, 1) := dk_42 (dk_at dksX4_readHand_2 3 rfl rfl)
theorem dX4_readHand_49 : decode cX4_readHand 49 = .ok (.invokevirtual 231, 3) := dk_182 0 231 (dk_at dksX4_readHand_2 4 rfl rfl)
theorem dX4_readHand_52 : decode cX4_readHand 52 = .ok (.ifCond .ne 4, 3) := dk_154 0 4 (dk_at dksX4_readHand_2 7 rfl rfl)
theorem dX4_readHand_55 : decode cX4_readHand 55 = .ok (.return_, 1) := dk_177 (dk_at dksX4_readHand_2 10 rfl rfl)
theorem dX4_readHand_56 : decode cX4_readHand 56 = .ok (.aload_n 0, 1) := dk_42 (dk_at dksX4_readHand_2 11 rfl rfl)
theorem dX4_readHand_57 : decode cX4_readHand 57 = .ok (.getfield 58, 3) := dk_180 0 58 (dk_at dksX4_readHand_2 12 rfl rfl)
theorem dX4_readHand_60 : decode cX4_readHand 60 = .ok (.iload_n 1, 1) := dk_27 (dk_at dksX4_readHand_2 15 rfl rfl)
theorem dX4_readHand_61 : decode cX4_readHand 61 = .ok (.aload_n 0, 1) := dk_42 (dk_at dksX4_readHand_2 16 rfl rfl)
theorem dX4_readHand_62 : decode cX4_readHand 62 = .ok (.getfield 210, 3) := dk_180 0 210 (dk_at dksX4_readHand_2 17 rfl rfl)
theorem dX4_readHand_65 : decode cX4_readHand 65 = .ok (.lastore, 1) := dk_80 (dk_at dksX4_readHand_2 20 rfl rfl)
theorem dX4_readHand_66 : decode cX4_readHand 66 = .ok (.aload_n 0, 1) := dk_42 (dk_at dksX4_readHand_2 21 rfl rfl)
theorem dX4_readHand_67 : decode cX4_readHand 67 = .ok (.invokevirtual 235, 3) := dk_182 0 235 (dk_at dksX4_readHand_3 0 rfl rfl)
theorem dX4_readHand_70 : decode cX4_readHand 70 = .ok (.aload_n 0, 1) := dk_42 (dk_at dksX4_readHand_3 3 rfl rfl)
theorem dX4_readHand_71 : decode cX4_readHand 71 = .ok (.aload_n 0, 1) := dk_42 (dk_at dksX4_readHand_3 4 rfl rfl)
theorem dX4_readHand_72 : decode cX4_readHand 72 = .ok (.ldc2_w 165, 3) := dk_20 0 165 (dk_at dksX4_readHand_3 5 rfl rfl)
theorem dX4_readHand_75 : decode cX4_readHand 75 = .ok (.invokevirtual 256, 3) := dk_182 1 0 (dk_at dksX4_readHand_3 8 rfl rfl)
theorem dX4_readHand_78 : decode cX4_readHand 78 = .ok (.invokevirtual 275, 3) := dk_182 1 19 (dk_at dksX4_readHand_3 11 rfl rfl)
theorem dX4_readHand_81 : decode cX4_readHand 81 = .ok (.aload_n 0, 1) := dk_42 (dk_at dksX4_readHand_3 14 rfl rfl)
theorem dX4_readHand_82 : decode cX4_readHand 82 = .ok (.invokevirtual 231, 3) := dk_182 0 231 (dk_at dksX4_readHand_3 15 rfl rfl)
theorem dX4_readHand_85 : decode cX4_readHand 85 = .ok (.ifCond .eq 18, 3) := dk_153 0 18 (dk_at dksX4_readHand_3 18 rfl rfl)
theorem dX4_readHand_88 : decode cX4_readHand 88 = .ok (.aload_n 0, 1) := dk_42 (dk_at dksX4_readHand_3 21 rfl rfl)
theorem dX4_readHand_89 : decode cX4_readHand 89 = .ok (.iconst 2, 1) := dk_5 (dk_at dksX4_readHand_3 22 rfl rfl)
theorem dX4_readHand_90 : decode cX4_readHand 90 = .ok (.aload_n 0, 1) := dk_42 (dk_at dksX4_readHand_3 23 rfl rfl)
theorem dX4_readHand_91 : decode cX4_readHand 91 = .ok (.getfield 27, 3) := dk_180 0 27 (dk_at dksX4_readHand_4 0 rfl rfl)
theorem dX4_readHand_94 : decode cX4_readHand 94 = .ok (.aload_n 0, 1) := dk_42 (dk_at dksX4_readHand_4 3 rfl rfl)
theorem dX4_readHand_95 : decode cX4_readHand 95 = .ok (.getfield 241, 3) := dk_180 0 241 (dk_at dksX4_readHand_4 4 rfl rfl)
theorem dX4_readHand_98 : decode cX4_readHand 98 = .ok (.iaload, 1) := dk_46 (dk_at dksX4_readHand_4 7 rfl rfl)
theorem dX4_readHand_99 : decode cX4_readHand 99 = .ok (.imul, 1) := dk_104 (dk_at dksX4_readHand_4 8 rfl rfl)
theorem dX4_readHand_100 : decode cX4_readHand 100 = .ok (.invokevirtual 283, 3) := dk_182 1 27 (dk_at dksX4_readHand_4 9 rfl rfl)
theorem dX4_readHand_103 : decode cX4_readHand 103 = .ok (.aload_n 0, 1) := dk_42 (dk_at dksX4_readHand_4 12 rfl rfl)
theorem dX4_readHand_104 : decode cX4_readHand 104 = .ok (.aload_n 0, 1) := dk_42 (dk_at dksX4_readHand_4 13 rfl rfl)
theorem dX4_readHand_105 : decode cX4_readHand 105 = .ok (.ldc2_w 167, 3) := dk_20 0 167 (dk_at dksX4_readHand_4 14 rfl rfl)
theorem dX4_readHand_108 : decode cX4_readHand 108 = .ok (.invokevirtual 256, 3) := dk_182 1 0 (dk_at dksX4_readHand_4 17 rfl rfl)
theorem dX4_readHand_111 : decode cX4_readHand 111 = .ok (.invokevirtual 275, 3) := dk_182 1 19 (dk_at dksX4_readHand_4 20 rfl rfl)
theorem dX4_readHand_114 : decode cX4_readHand 114 = .ok (.aload_n 0, 1) := dk_42 (dk_at dksX4_readHand_4 23 rfl rfl)
theorem dX4_readHand_115 : decode cX4_readHand 115 = .ok (.invokevirtual 231, 3) := dk_182 0 231 (dk_at dksX4_readHand_5 0 rfl rfl)
theorem dX4_readHand_118 : decode cX4_readHand 118 = .ok (.ifCond .eq 20, 3) := dk_153 0 20 (dk_at dksX4_readHand_5 3 rfl rfl)
theorem dX4_readHand_121 : decode cX4_readHand 121 = .ok (.aload_n 0, 1) := dk_42 (dk_at dksX4_readHand_5 6 rfl rfl)
theorem dX4_readHand_122 : decode cX4_readHand 122 = .ok (.iconst 2, 1) := dk_5 (dk_at dksX4_readHand_5 7 rfl rfl)
theorem dX4_readHand_123 : decode cX4_readHand 123 = .ok (.aload_n 0, 1) := dk_42 (dk_at dksX4_readHand_5 8 rfl rfl)
theorem dX4_readHand_124 : decode cX4_readHand 124 = .ok (.getfield 27, 3) := dk_180 0 27 (dk_at dksX4_readHand_5 9 rfl rfl)
theorem dX4_readHand_127 : decode cX4_readHand 127 = .ok (.aload_n 0, 1) := dk_42 (dk_at dksX4_readHand_5 12 rfl rfl)
theorem dX4_readHand_128 : decode cX4_readHand 128 = .ok (.getfield 241, 3) := dk_180 0 241 (dk_at dksX4_readHand_5 13 rfl rfl)
theorem dX4_readHand_131 : decode cX4_readHand 131 = .ok (.iaload, 1) := dk_46 (dk_at dksX4_readHand_5 16 rfl rfl)
theorem dX4_readHand_132 : decode cX4_readHand 132 = .ok (.imul, 1) := dk_104 (dk_at dksX4_readHand_5 17 rfl rfl)
theorem dX4_readHand_133 : decode cX4_readHand 133 = .ok (.iconst 1, 1) := dk_4 (dk_at dksX4_readHand_5 18 rfl rfl)
theorem dX4_readHand_134 : decode cX4_readHand 134 = .ok (.iadd, 1) := dk_96 (dk_at dksX4_readHand_5 19 rfl rfl)
theorem dX4_readHand_135 : decode cX4_readHand 135 = .ok (.invokevirtual 283, 3) := dk_182 1 27 (dk_at dksX4_readHand_5 20 rfl rfl)
theorem dX4_readHand_138 : decode cX4_readHand 138 = .ok (.aload_n 0, 1) := dk_42 (dk_at dksX4_readHand_5 23 rfl rfl)
theorem dX4_readHand_139 : decode cX4_readHand 139 = .ok (.getfield 27, 3) := dk_180 0 27 (dk_at dksX4_readHand_6 0 rfl rfl)
theorem dX4_readHand_142 : decode cX4_readHand 142 = .ok (.aload_n 0, 1) := dk_42 (dk_at dksX4_readHand_6 3 rfl rfl)
theorem dX4_readHand_143 : decode cX4_readHand 143 = .ok (.getfield 241, 3) := dk_180 0 241 (dk_at dksX4_readHand_6 4 rfl rfl)
theorem dX4_readHand_146 : decode cX4_readHand 146 = .ok (.dup2, 1) := dk_92 (dk_at dksX4_readHand_6 7 rfl rfl)
theorem dX4_readHand_147 : decode cX4_readHand 147 = .ok (.iaload, 1) := dk_46 (dk_at dksX4_readHand_6 8 rfl rfl)
theorem dX4_readHand_148 : decode cX4_readHand 148 = .ok (.iconst 1, 1) := dk_4 (dk_at dksX4_readHand_6 9 rfl rfl)
theorem dX4_readHand_149 : decode cX4_readHand 149 = .ok (.iadd, 1) := dk_96 (dk_at dksX4_readHand_6 10 rfl rfl)
theorem dX4_readHand_150 : decode cX4_readHand 150 = .ok (.iastore, 1) := dk_79 (dk_at dksX4_readHand_6 11 rfl rfl)
theorem dX4_readHand_151 : decode cX4_readHand 151 = .ok (.return_, 1) := dk_177 (dk_at dksX4_readHand_6 12 rfl rfl)
abbrev cX4_handHere : ByteArray := prog_27_method_20_code
def yX4_handHere : MethodName := ⟨RX4, "handHere", "()I"⟩
def dkwX4_handHere_2 : List UInt8 := [132, 1, 1, 167, 255, 209, 2, 172]
abbrev dktX4_handHere_2 : List UInt8 := dkwX4_handHere_2 ++ []
def dkwX4_handHere_1 : List UInt8 := [180, 0, 58, 7, 42, 180, 0, 241, 104, 27, 96, 47, 42, 180, 0, 210, 148, 154, 0, 5, 27, 172]
abbrev dktX4_handHere_1 : List UInt8 := dkwX4_handHere_1 ++ dktX4_handHere_2
def dkwX4_handHere_0 : List UInt8 := [3, 60, 27, 42, 180, 0, 27, 42, 180, 0, 241, 46, 162, 0, 40, 42, 180, 0, 203, 5, 160, 0, 26, 42]
abbrev dktX4_handHere_0 : List UInt8 := dkwX4_handHere_0 ++ dktX4_handHere_1
theorem dksX4_handHere_0 : cX4_handHere.data.toList.drop 0 = dktX4_handHere_0 := by decide +kernel
theorem dksX4_handHere_1 : cX4_handHere.data.toList.drop 24 = dktX4_handHere_1 := dk_seg dksX4_handHere_0 24 rfl rfl
theorem dksX4_handHere_2 : cX4_handHere.data.toList.drop 46 = dktX4_handHere_2 := dk_seg dksX4_handHere_1 22 rfl rfl
theorem dX4_handHere_0 : decode cX4_handHere 0 = .ok (.iconst 0, 1) := dk_3 (dk_at dksX4_handHere_0 0 rfl rfl)
theorem dX4_handHere_1 : decode cX4_handHere 1 = .ok (.istore_n 1, 1) := dk_60 (dk_at dksX4_handHere_0 1 rfl rfl)
theorem dX4_handHere_2 : decode cX4_handHere 2 = .ok (.iload_n 1, 1) := dk_27 (dk_at dksX4_handHere_0 2 rfl rfl)
theorem dX4_handHere_3 : decode cX4_handHere 3 = .ok (.aload_n 0, 1) := dk_42 (dk_at dksX4_handHere_0 3 rfl rfl)
theorem dX4_handHere_4 : decode cX4_handHere 4 = .ok (.getfield 27, 3) := dk_180 0 27 (dk_at dksX4_handHere_0 4 rfl rfl)
theorem dX4_handHere_7 : decode cX4_handHere 7 = .ok (.aload_n 0, 1) := dk_42 (dk_at dksX4_handHere_0 7 rfl rfl)
theorem dX4_handHere_8 : decode cX4_handHere 8 = .ok (.getfield 241, 3) := dk_180 0 241 (dk_at dksX4_handHere_0 8 rfl rfl)
theorem dX4_handHere_11 : decode cX4_handHere 11 = .ok (.iaload, 1) := dk_46 (dk_at dksX4_handHere_0 11 rfl rfl)
theorem dX4_handHere_12 : decode cX4_handHere 12 = .ok (.if_icmp .ge 40, 3) := dk_162 0 40 (dk_at dksX4_handHere_0 12 rfl rfl)
theorem dX4_handHere_15 : decode cX4_handHere 15 = .ok (.aload_n 0, 1) := dk_42 (dk_at dksX4_handHere_0 15 rfl rfl)
theorem dX4_handHere_16 : decode cX4_handHere 16 = .ok (.getfield 203, 3) := dk_180 0 203 (dk_at dksX4_handHere_0 16 rfl rfl)
theorem dX4_handHere_19 : decode cX4_handHere 19 = .ok (.iconst 2, 1) := dk_5 (dk_at dksX4_handHere_0 19 rfl rfl)
theorem dX4_handHere_20 : decode cX4_handHere 20 = .ok (.if_icmp .ne 26, 3) := dk_160 0 26 (dk_at dksX4_handHere_0 20 rfl rfl)
theorem dX4_handHere_23 : decode cX4_handHere 23 = .ok (.aload_n 0, 1) := dk_42 (dk_at dksX4_handHere_0 23 rfl rfl)
theorem dX4_handHere_24 : decode cX4_handHere 24 = .ok (.getfield 58, 3) := dk_180 0 58 (dk_at dksX4_handHere_1 0 rfl rfl)
theorem dX4_handHere_27 : decode cX4_handHere 27 = .ok (.iconst 4, 1) := dk_7 (dk_at dksX4_handHere_1 3 rfl rfl)
theorem dX4_handHere_28 : decode cX4_handHere 28 = .ok (.aload_n 0, 1) := dk_42 (dk_at dksX4_handHere_1 4 rfl rfl)
theorem dX4_handHere_29 : decode cX4_handHere 29 = .ok (.getfield 241, 3) := dk_180 0 241 (dk_at dksX4_handHere_1 5 rfl rfl)
theorem dX4_handHere_32 : decode cX4_handHere 32 = .ok (.imul, 1) := dk_104 (dk_at dksX4_handHere_1 8 rfl rfl)
theorem dX4_handHere_33 : decode cX4_handHere 33 = .ok (.iload_n 1, 1) := dk_27 (dk_at dksX4_handHere_1 9 rfl rfl)
theorem dX4_handHere_34 : decode cX4_handHere 34 = .ok (.iadd, 1) := dk_96 (dk_at dksX4_handHere_1 10 rfl rfl)
theorem dX4_handHere_35 : decode cX4_handHere 35 = .ok (.laload, 1) := dk_47 (dk_at dksX4_handHere_1 11 rfl rfl)
theorem dX4_handHere_36 : decode cX4_handHere 36 = .ok (.aload_n 0, 1) := dk_42 (dk_at dksX4_handHere_1 12 rfl rfl)
theorem dX4_handHere_37 : decode cX4_handHere 37 = .ok (.getfield 210, 3) := dk_180 0 210 (dk_at dksX4_handHere_1 13 rfl rfl)
theorem dX4_handHere_40 : decode cX4_handHere 40 = .ok (.lcmp, 1) := dk_148 (dk_at dksX4_handHere_1 16 rfl rfl)
theorem dX4_handHere_41 : decode cX4_handHere 41 = .ok (.ifCond .ne 5, 3) := dk_154 0 5 (dk_at dksX4_handHere_1 17 rfl rfl)
theorem dX4_handHere_44 : decode cX4_handHere 44 = .ok (.iload_n 1, 1) := dk_27 (dk_at dksX4_handHere_1 20 rfl rfl)
theorem dX4_handHere_45 : decode cX4_handHere 45 = .ok (.ireturn, 1) := dk_172 (dk_at dksX4_handHere_1 21 rfl rfl)
theorem dX4_handHere_46 : decode cX4_handHere 46 = .ok (.iinc 1 1, 3) := dk_132 1 1 (dk_at dksX4_handHere_2 0 rfl rfl)
theorem dX4_handHere_49 : decode cX4_handHere 49 = .ok (.goto (-47), 3) := dk_167 255 209 (dk_at dksX4_handHere_2 3 rfl rfl)
theorem dX4_handHere_52 : decode cX4_handHere 52 = .ok (.iconst (-1), 1) := dk_2 (dk_at dksX4_handHere_2 6 rfl rfl)
theorem dX4_handHere_53 : decode cX4_handHere 53 = .ok (.ireturn, 1) := dk_172 (dk_at dksX4_handHere_2 7 rfl rfl)
abbrev cX4_must : ByteArray := prog_27_method_13_code
def yX4_must : MethodName := ⟨RX4, "must", "(Z)V"⟩
def dkwX4_must_0 : List UInt8 := [42, 182, 0, 231, 154, 0, 4, 177, 27, 153, 0, 10, 42, 182, 0, 235, 167, 0, 7, 42, 182, 0, 238, 177]
abbrev dktX4_must_0 : List UInt8 := dkwX4_must_0 ++ []
theorem dksX4_must_0 : cX4_must.data.toList.drop 0 = dktX4_must_0 := by decide +kernel
theorem dX4_must_0 : decode cX4_must 0 = .ok (.aload_n 0, 1) := dk_42 (dk_at dksX4_must_0 0 rfl rfl)
theorem dX4_must_1 : decode cX4_must 1 = .ok (.invokevirtual 231, 3) := dk_182 0 231 (dk_at dksX4_must_0 1 rfl rfl)
theorem dX4_must_4 : decode cX4_must 4 = .ok (.ifCond .ne 4, 3) := dk_154 0 4 (dk_at dksX4_must_0 4 rfl rfl)
theorem dX4_must_7 : decode cX4_must 7 = .ok (.return_, 1) := dk_177 (dk_at dksX4_must_0 7 rfl rfl)
theorem dX4_must_8 : decode cX4_must 8 = .ok (.iload_n 1, 1) := dk_27 (dk_at dksX4_must_0 8 rfl rfl)
theorem dX4_must_9 : decode cX4_must 9 = .ok (.ifCond .eq 10, 3) := dk_153 0 10 (dk_at dksX4_must_0 9 rfl rfl)
theorem dX4_must_12 : decode cX4_must 12 = .ok (.aload_n 0, 1) := dk_42 (dk_at dksX4_must_0 12 rfl rfl)
theorem dX4_must_13 : decode cX4_must 13 = .ok (.invokevirtual 235, 3) := dk_182 0 235 (dk_at dksX4_must_0 13 rfl rfl)
theorem dX4_must_16 : decode cX4_must 16 = .ok (.goto 7, 3) := dk_167 0 7 (dk_at dksX4_must_0 16 rfl rfl)
theorem dX4_must_19 : decode cX4_must 19 = .ok (.aload_n 0, 1) := dk_42 (dk_at dksX4_must_0 19 rfl rfl)
theorem dX4_must_20 : decode cX4_must 20 = .ok (.invokevirtual 238, 3) := dk_182 0 238 (dk_at dksX4_must_0 20 rfl rfl)
theorem dX4_must_23 : decode cX4_must 23 = .ok (.return_, 1) := dk_177 (dk_at dksX4_must_0 23 rfl rfl)
abbrev cX4_readRule : ByteArray := prog_27_method_22_code
def yX4_readRule : MethodName := ⟨RX4, "readRule", "(I)V"⟩
def dkwX4_readRule_1 : List UInt8 := [182, 1, 34, 42, 180, 0, 45, 16, 8, 42, 180, 0, 241, 104, 27, 96, 42, 180, 0, 244, 79, 177]
abbrev dktX4_readRule_1 : List UInt8 := dkwX4_readRule_1 ++ []
def dkwX4_readRule_0 : List UInt8 := [42, 3, 181, 1, 31, 42, 180, 0, 42, 16, 8, 42, 180, 0, 241, 104, 27, 96, 42, 180, 0, 244, 79, 42]
abbrev dktX4_readRule_0 : List UInt8 := dkwX4_readRule_0 ++ dktX4_readRule_1
theorem dksX4_readRule_0 : cX4_readRule.data.toList.drop 0 = dktX4_readRule_0 := by decide +kernel
theorem dksX4_readRule_1 : cX4_readRule.data.toList.drop 24 = dktX4_readRule_1 := dk_seg dksX4_readRule_0 24 rfl rfl
theorem dX4_readRule_0 : decode cX4_readRule 0 = .ok (.aload_n 0, 1) := dk_42 (dk_at dksX4_readRule_0 0 rfl rfl)
theorem dX4_readRule_1 : decode cX4_readRule 1 = .ok (.iconst 0, 1) := dk_3 (dk_at dksX4_readRule_0 1 rfl rfl)
theorem dX4_readRule_2 : decode cX4_readRule 2 = .ok (.putfield 287, 3) := dk_181 1 31 (dk_at dksX4_readRule_0 2 rfl rfl)
theorem dX4_readRule_5 : decode cX4_readRule 5 = .ok (.aload_n 0, 1) := dk_42 (dk_at dksX4_readRule_0 5 rfl rfl)
theorem dX4_readRule_6 : decode cX4_readRule 6 = .ok (.getfield 42, 3) := dk_180 0 42 (dk_at dksX4_readRule_0 6 rfl rfl)
theorem dX4_readRule_9 : decode cX4_readRule 9 = .ok (.bipush 8, 2) := dk_16 8 (dk_at dksX4_readRule_0 9 rfl rfl)
theorem dX4_readRule_11 : decode cX4_readRule 11 = .ok (.aload_n 0, 1) := dk_42 (dk_at dksX4_readRule_0 11 rfl rfl)
theorem dX4_readRule_12 : decode cX4_readRule 12 = .ok (.getfield 241, 3) := dk_180 0 241 (dk_at dksX4_readRule_0 12 rfl rfl)
theorem dX4_readRule_15 : decode cX4_readRule 15 = .ok (.imul, 1) := dk_104 (dk_at dksX4_readRule_0 15 rfl rfl)
theorem dX4_readRule_16 : decode cX4_readRule 16 = .ok (.iload_n 1, 1) := dk_27 (dk_at dksX4_readRule_0 16 rfl rfl)
theorem dX4_readRule_17 : decode cX4_readRule 17 = .ok (.iadd, 1) := dk_96 (dk_at dksX4_readRule_0 17 rfl rfl)
theorem dX4_readRule_18 : decode cX4_readRule 18 = .ok (.aload_n 0, 1) := dk_42 (dk_at dksX4_readRule_0 18 rfl rfl)
theorem dX4_readRule_19 : decode cX4_readRule 19 = .ok (.getfield 244, 3) := dk_180 0 244 (dk_at dksX4_readRule_0 19 rfl rfl)
theorem dX4_readRule_22 : decode cX4_readRule 22 = .ok (.iastore, 1) := dk_79 (dk_at dksX4_readRule_0 22 rfl rfl)
theorem dX4_readRule_23 : decode cX4_readRule 23 = .ok (.aload_n 0, 1) := dk_42 (dk_at dksX4_readRule_0 23 rfl rfl)
theorem dX4_readRule_24 : decode cX4_readRule 24 = .ok (.invokevirtual 290, 3) := dk_182 1 34 (dk_at dksX4_readRule_1 0 rfl rfl)
theorem dX4_readRule_27 : decode cX4_readRule 27 = .ok (.aload_n 0, 1) := dk_42 (dk_at dksX4_readRule_1 3 rfl rfl)
theorem dX4_readRule_28 : decode cX4_readRule 28 = .ok (.getfield 45, 3) := dk_180 0 45 (dk_at dksX4_readRule_1 4 rfl rfl)
theorem dX4_readRule_31 : decode cX4_readRule 31 = .ok (.bipush 8, 2) := dk_16 8 (dk_at dksX4_readRule_1 7 rfl rfl)
theorem dX4_readRule_33 : decode cX4_readRule 33 = .ok (.aload_n 0, 1) := dk_42 (dk_at dksX4_readRule_1 9 rfl rfl)
theorem dX4_readRule_34 : decode cX4_readRule 34 = .ok (.getfield 241, 3) := dk_180 0 241 (dk_at dksX4_readRule_1 10 rfl rfl)
theorem dX4_readRule_37 : decode cX4_readRule 37 = .ok (.imul, 1) := dk_104 (dk_at dksX4_readRule_1 13 rfl rfl)
theorem dX4_readRule_38 : decode cX4_readRule 38 = .ok (.iload_n 1, 1) := dk_27 (dk_at dksX4_readRule_1 14 rfl rfl)
theorem dX4_readRule_39 : decode cX4_readRule 39 = .ok (.iadd, 1) := dk_96 (dk_at dksX4_readRule_1 15 rfl rfl)
theorem dX4_readRule_40 : decode cX4_readRule 40 = .ok (.aload_n 0, 1) := dk_42 (dk_at dksX4_readRule_1 16 rfl rfl)
theorem dX4_readRule_41 : decode cX4_readRule 41 = .ok (.getfield 244, 3) := dk_180 0 244 (dk_at dksX4_readRule_1 17 rfl rfl)
theorem dX4_readRule_44 : decode cX4_readRule 44 = .ok (.iastore, 1) := dk_79 (dk_at dksX4_readRule_1 20 rfl rfl)
theorem dX4_readRule_45 : decode cX4_readRule 45 = .ok (.return_, 1) := dk_177 (dk_at dksX4_readRule_1 21 rfl rfl)
abbrev cX4_e : ByteArray := prog_27_method_25_code
def yX4_e : MethodName := ⟨RX4, "e", "()V"⟩
def dkwX4_e_2 : List UInt8 := [182, 1, 49, 60, 167, 255, 226, 177]
abbrev dktX4_e_2 : List UInt8 := dkwX4_e_2 ++ []
def dkwX4_e_1 : List UInt8 := [153, 0, 29, 42, 180, 1, 37, 158, 0, 22, 27, 153, 0, 10, 42, 182, 1, 46, 167, 0, 7, 42]
abbrev dktX4_e_1 : List UInt8 := dkwX4_e_1 ++ dktX4_e_2
def dkwX4_e_0 : List UInt8 := [42, 3, 181, 1, 37, 42, 3, 181, 1, 40, 42, 16, 8, 3, 182, 1, 43, 4, 60, 42, 182, 0, 231]
abbrev dktX4_e_0 : List UInt8 := dkwX4_e_0 ++ dktX4_e_1
theorem dksX4_e_0 : cX4_e.data.toList.drop 0 = dktX4_e_0 := by decide +kernel
theorem dksX4_e_1 : cX4_e.data.toList.drop 23 = dktX4_e_1 := dk_seg dksX4_e_0 23 rfl rfl
theorem dksX4_e_2 : cX4_e.data.toList.drop 45 = dktX4_e_2 := dk_seg dksX4_e_1 22 rfl rfl
theorem dX4_e_0 : decode cX4_e 0 = .ok (.aload_n 0, 1) := dk_42 (dk_at dksX4_e_0 0 rfl rfl)
theorem dX4_e_1 : decode cX4_e 1 = .ok (.iconst 0, 1) := dk_3 (dk_at dksX4_e_0 1 rfl rfl)
theorem dX4_e_2 : decode cX4_e 2 = .ok (.putfield 293, 3) := dk_181 1 37 (dk_at dksX4_e_0 2 rfl rfl)
theorem dX4_e_5 : decode cX4_e 5 = .ok (.aload_n 0, 1) := dk_42 (dk_at dksX4_e_0 5 rfl rfl)
theorem dX4_e_6 : decode cX4_e 6 = .ok (.iconst 0, 1) := dk_3 (dk_at dksX4_e_0 6 rfl rfl)
theorem dX4_e_7 : decode cX4_e 7 = .ok (.putfield 296, 3) := dk_181 1 40 (dk_at dksX4_e_0 7 rfl rfl)
theorem dX4_e_10 : decode cX4_e 10 = .ok (.aload_n 0, 1) := dk_42 (dk_at dksX4_e_0 10 rfl rfl)
theorem dX4_e_11 : decode cX4_e 11 = .ok (.bipush 8, 2) := dk_16 8 (dk_at dksX4_e_0 11 rfl rfl)
theorem dX4_e_13 : decode cX4_e 13 = .ok (.iconst 0, 1) := dk_3 (dk_at dksX4_e_0 13 rfl rfl)
theorem dX4_e_14 : decode cX4_e 14 = .ok (.invokevirtual 299, 3) := dk_182 1 43 (dk_at dksX4_e_0 14 rfl rfl)
theorem dX4_e_17 : decode cX4_e 17 = .ok (.iconst 1, 1) := dk_4 (dk_at dksX4_e_0 17 rfl rfl)
theorem dX4_e_18 : decode cX4_e 18 = .ok (.istore_n 1, 1) := dk_60 (dk_at dksX4_e_0 18 rfl rfl)
theorem dX4_e_19 : decode cX4_e 19 = .ok (.aload_n 0, 1) := dk_42 (dk_at dksX4_e_0 19 rfl rfl)
theorem dX4_e_20 : decode cX4_e 20 = .ok (.invokevirtual 231, 3) := dk_182 0 231 (dk_at dksX4_e_0 20 rfl rfl)
theorem dX4_e_23 : decode cX4_e 23 = .ok (.ifCond .eq 29, 3) := dk_153 0 29 (dk_at dksX4_e_1 0 rfl rfl)
theorem dX4_e_26 : decode cX4_e 26 = .ok (.aload_n 0, 1) := dk_42 (dk_at dksX4_e_1 3 rfl rfl)
theorem dX4_e_27 : decode cX4_e 27 = .ok (.getfield 293, 3) := dk_180 1 37 (dk_at dksX4_e_1 4 rfl rfl)
theorem dX4_e_30 : decode cX4_e 30 = .ok (.ifCond .le 22, 3) := dk_158 0 22 (dk_at dksX4_e_1 7 rfl rfl)
theorem dX4_e_33 : decode cX4_e 33 = .ok (.iload_n 1, 1) := dk_27 (dk_at dksX4_e_1 10 rfl rfl)
theorem dX4_e_34 : decode cX4_e 34 = .ok (.ifCond .eq 10, 3) := dk_153 0 10 (dk_at dksX4_e_1 11 rfl rfl)
theorem dX4_e_37 : decode cX4_e 37 = .ok (.aload_n 0, 1) := dk_42 (dk_at dksX4_e_1 14 rfl rfl)
theorem dX4_e_38 : decode cX4_e 38 = .ok (.invokevirtual 302, 3) := dk_182 1 46 (dk_at dksX4_e_1 15 rfl rfl)
theorem dX4_e_41 : decode cX4_e 41 = .ok (.goto 7, 3) := dk_167 0 7 (dk_at dksX4_e_1 18 rfl rfl)
theorem dX4_e_44 : decode cX4_e 44 = .ok (.aload_n 0, 1) := dk_42 (dk_at dksX4_e_1 21 rfl rfl)
theorem dX4_e_45 : decode cX4_e 45 = .ok (.invokevirtual 305, 3) := dk_182 1 49 (dk_at dksX4_e_2 0 rfl rfl)
theorem dX4_e_48 : decode cX4_e 48 = .ok (.istore_n 1, 1) := dk_60 (dk_at dksX4_e_2 3 rfl rfl)
theorem dX4_e_49 : decode cX4_e 49 = .ok (.goto (-30), 3) := dk_167 255 226 (dk_at dksX4_e_2 4 rfl rfl)
theorem dX4_e_52 : decode cX4_e 52 = .ok (.return_, 1) := dk_177 (dk_at dksX4_e_2 7 rfl rfl)
abbrev cX4_pushE : ByteArray := prog_27_method_24_code
def yX4_pushE : MethodName := ⟨RX4, "pushE", "(II)V"⟩
def dkwX4_pushE_1 : List UInt8 := [180, 1, 37, 4, 96, 181, 1, 37, 177]
abbrev dktX4_pushE_1 : List UInt8 := dkwX4_pushE_1 ++ []
def dkwX4_pushE_0 : List UInt8 := [42, 180, 0, 68, 42, 180, 1, 37, 27, 79, 42, 180, 0, 71, 42, 180, 1, 37, 28, 79, 42, 89]
abbrev dktX4_pushE_0 : List UInt8 := dkwX4_pushE_0 ++ dktX4_pushE_1
theorem dksX4_pushE_0 : cX4_pushE.data.toList.drop 0 = dktX4_pushE_0 := by decide +kernel
theorem dksX4_pushE_1 : cX4_pushE.data.toList.drop 22 = dktX4_pushE_1 := dk_seg dksX4_pushE_0 22 rfl rfl
theorem dX4_pushE_0 : decode cX4_pushE 0 = .ok (.aload_n 0, 1) := dk_42 (dk_at dksX4_pushE_0 0 rfl rfl)
theorem dX4_pushE_1 : decode cX4_pushE 1 = .ok (.getfield 68, 3) := dk_180 0 68 (dk_at dksX4_pushE_0 1 rfl rfl)
theorem dX4_pushE_4 : decode cX4_pushE 4 = .ok (.aload_n 0, 1) := dk_42 (dk_at dksX4_pushE_0 4 rfl rfl)
theorem dX4_pushE_5 : decode cX4_pushE 5 = .ok (.getfield 293, 3) := dk_180 1 37 (dk_at dksX4_pushE_0 5 rfl rfl)
theorem dX4_pushE_8 : decode cX4_pushE 8 = .ok (.iload_n 1, 1) := dk_27 (dk_at dksX4_pushE_0 8 rfl rfl)
theorem dX4_pushE_9 : decode cX4_pushE 9 = .ok (.iastore, 1) := dk_79 (dk_at dksX4_pushE_0 9 rfl rfl)
theorem dX4_pushE_10 : decode cX4_pushE 10 = .ok (.aload_n 0, 1) := dk_42 (dk_at dksX4_pushE_0 10 rfl rfl)
theorem dX4_pushE_11 : decode cX4_pushE 11 = .ok (.getfield 71, 3) := dk_180 0 71 (dk_at dksX4_pushE_0 11 rfl rfl)
theorem dX4_pushE_14 : decode cX4_pushE 14 = .ok (.aload_n 0, 1) := dk_42 (dk_at dksX4_pushE_0 14 rfl rfl)
theorem dX4_pushE_15 : decode cX4_pushE 15 = .ok (.getfield 293, 3) := dk_180 1 37 (dk_at dksX4_pushE_0 15 rfl rfl)
theorem dX4_pushE_18 : decode cX4_pushE 18 = .ok (.iload_n 2, 1) := dk_28 (dk_at dksX4_pushE_0 18 rfl rfl)
theorem dX4_pushE_19 : decode cX4_pushE 19 = .ok (.iastore, 1) := dk_79 (dk_at dksX4_pushE_0 19 rfl rfl)
theorem dX4_pushE_20 : decode cX4_pushE 20 = .ok (.aload_n 0, 1) := dk_42 (dk_at dksX4_pushE_0 20 rfl rfl)
theorem dX4_pushE_21 : decode cX4_pushE 21 = .ok (.dup, 1) := dk_89 (dk_at dksX4_pushE_0 21 rfl rfl)
theorem dX4_pushE_22 : decode cX4_pushE 22 = .ok (.getfield 293, 3) := dk_180 1 37 (dk_at dksX4_pushE_1 0 rfl rfl)
theorem dX4_pushE_25 : decode cX4_pushE 25 = .ok (.iconst 1, 1) := dk_4 (dk_at dksX4_pushE_1 3 rfl rfl)
theorem dX4_pushE_26 : decode cX4_pushE 26 = .ok (.iadd, 1) := dk_96 (dk_at dksX4_pushE_1 4 rfl rfl)
theorem dX4_pushE_27 : decode cX4_pushE 27 = .ok (.putfield 293, 3) := dk_181 1 37 (dk_at dksX4_pushE_1 5 rfl rfl)
theorem dX4_pushE_30 : decode cX4_pushE 30 = .ok (.return_, 1) := dk_177 (dk_at dksX4_pushE_1 8 rfl rfl)
abbrev cX4_unit : ByteArray := prog_27_method_27_code
def yX4_unit : MethodName := ⟨RX4, "unit", "()Z"⟩
def dkwX4_unit_11 : List UInt8 := [167, 0, 5, 21, 4, 21, 6, 182, 1, 55, 3, 172]
abbrev dktX4_unit_11 : List UInt8 := dkwX4_unit_11 ++ []
def dkwX4_unit_10 : List UInt8 := [182, 1, 43, 42, 89, 180, 1, 40, 4, 96, 181, 1, 40, 4, 172, 42, 21, 4, 154, 0, 8, 16, 110]
abbrev dktX4_unit_10 : List UInt8 := dkwX4_unit_10 ++ dktX4_unit_11
def dkwX4_unit_9 : List UInt8 := [182, 0, 235, 28, 154, 0, 7, 29, 153, 0, 31, 42, 28, 153, 0, 7, 6, 167, 0, 5, 16, 7, 16, 126]
abbrev dktX4_unit_9 : List UInt8 := dkwX4_unit_9 ++ dktX4_unit_10
def dkwX4_unit_8 : List UInt8 := [167, 0, 4, 4, 96, 181, 1, 31, 21, 4, 154, 0, 10, 42, 180, 0, 221, 167, 0, 4, 3, 54, 6, 42]
abbrev dktX4_unit_8 : List UInt8 := dkwX4_unit_8 ++ dktX4_unit_9
def dkwX4_unit_7 : List UInt8 := [92, 46, 28, 153, 0, 7, 3, 167, 0, 4, 4, 96, 79, 42, 89, 180, 1, 31, 28, 153, 0, 7, 3]
abbrev dktX4_unit_7 : List UInt8 := dkwX4_unit_7 ++ dktX4_unit_8
def dkwX4_unit_6 : List UInt8 := [160, 0, 7, 42, 182, 0, 238, 42, 182, 0, 231, 154, 0, 5, 4, 172, 42, 180, 0, 30, 42, 180, 0, 241]
abbrev dktX4_unit_6 : List UInt8 := dkwX4_unit_6 ++ dktX4_unit_7
def dkwX4_unit_5 : List UInt8 := [153, 0, 25, 21, 5, 154, 0, 20, 28, 154, 0, 7, 29, 153, 0, 16, 42, 180, 1, 40, 16, 7]
abbrev dktX4_unit_5 : List UInt8 := dkwX4_unit_5 ++ dktX4_unit_6
def dkwX4_unit_4 : List UInt8 := [167, 0, 4, 3, 54, 5, 28, 154, 0, 25, 21, 4, 154, 0, 15, 42, 180, 0, 203, 7, 159, 0, 7, 29]
abbrev dktX4_unit_4 : List UInt8 := dkwX4_unit_4 ++ dktX4_unit_5
def dkwX4_unit_3 : List UInt8 := [180, 0, 30, 42, 180, 0, 241, 46, 16, 90, 159, 0, 12, 42, 180, 1, 31, 16, 30, 160, 0, 7, 4]
abbrev dktX4_unit_3 : List UInt8 := dkwX4_unit_3 ++ dktX4_unit_4
def dkwX4_unit_2 : List UInt8 := [153, 0, 7, 4, 167, 0, 4, 3, 61, 42, 16, 40, 182, 1, 16, 62, 42, 182, 1, 52, 54, 4, 42]
abbrev dktX4_unit_2 : List UInt8 := dkwX4_unit_2 ++ dktX4_unit_3
def dkwX4_unit_1 : List UInt8 := [100, 46, 16, 7, 161, 0, 7, 4, 167, 0, 4, 3, 60, 27, 153, 0, 17, 42, 20, 0, 191, 182, 1, 0]
abbrev dktX4_unit_1 : List UInt8 := dkwX4_unit_1 ++ dktX4_unit_2
def dkwX4_unit_0 : List UInt8 := [42, 180, 0, 68, 42, 180, 1, 37, 4, 100, 46, 6, 164, 0, 19, 42, 180, 0, 68, 42, 180, 1, 37, 4]
abbrev dktX4_unit_0 : List UInt8 := dkwX4_unit_0 ++ dktX4_unit_1
theorem dksX4_unit_0 : cX4_unit.data.toList.drop 0 = dktX4_unit_0 := by decide +kernel
theorem dksX4_unit_1 : cX4_unit.data.toList.drop 24 = dktX4_unit_1 := dk_seg dksX4_unit_0 24 rfl rfl
theorem dksX4_unit_2 : cX4_unit.data.toList.drop 48 = dktX4_unit_2 := dk_seg dksX4_unit_1 24 rfl rfl
theorem dksX4_unit_3 : cX4_unit.data.toList.drop 71 = dktX4_unit_3 := dk_seg dksX4_unit_2 23 rfl rfl
theorem dksX4_unit_4 : cX4_unit.data.toList.drop 94 = dktX4_unit_4 := dk_seg dksX4_unit_3 23 rfl rfl
theorem dksX4_unit_5 : cX4_unit.data.toList.drop 118 = dktX4_unit_5 := dk_seg dksX4_unit_4 24 rfl rfl
theorem dksX4_unit_6 : cX4_unit.data.toList.drop 140 = dktX4_unit_6 := dk_seg dksX4_unit_5 22 rfl rfl
theorem dksX4_unit_7 : cX4_unit.data.toList.drop 164 = dktX4_unit_7 := dk_seg dksX4_unit_6 24 rfl rfl
theorem dksX4_unit_8 : cX4_unit.data.toList.drop 187 = dktX4_unit_8 := dk_seg dksX4_unit_7 23 rfl rfl
theorem dksX4_unit_9 : cX4_unit.data.toList.drop 211 = dktX4_unit_9 := dk_seg dksX4_unit_8 24 rfl rfl
theorem dksX4_unit_10 : cX4_unit.data.toList.drop 235 = dktX4_unit_10 := dk_seg dksX4_unit_9 24 rfl rfl
theorem dksX4_unit_11 : cX4_unit.data.toList.drop 258 = dktX4_unit_11 := dk_seg dksX4_unit_10 23 rfl rfl
theorem dX4_unit_0 : decode cX4_unit 0 = .ok (.aload_n 0, 1) := dk_42 (dk_at dksX4_unit_0 0 rfl rfl)
theorem dX4_unit_1 : decode cX4_unit 1 = .ok (.getfield 68, 3) := dk_180 0 68 (dk_at dksX4_unit_0 1 rfl rfl)
theorem dX4_unit_4 : decode cX4_unit 4 = .ok (.aload_n 0, 1) := dk_42 (dk_at dksX4_unit_0 4 rfl rfl)
theorem dX4_unit_5 : decode cX4_unit 5 = .ok (.getfield 293, 3) := dk_180 1 37 (dk_at dksX4_unit_0 5 rfl rfl)
theorem dX4_unit_8 : decode cX4_unit 8 = .ok (.iconst 1, 1) := dk_4 (dk_at dksX4_unit_0 8 rfl rfl)
theorem dX4_unit_9 : decode cX4_unit 9 = .ok (.isub, 1) := dk_100 (dk_at dksX4_unit_0 9 rfl rfl)
theorem dX4_unit_10 : decode cX4_unit 10 = .ok (.iaload, 1) := dk_46 (dk_at dksX4_unit_0 10 rfl rfl)
theorem dX4_unit_11 : decode cX4_unit 11 = .ok (.iconst 3, 1) := dk_6 (dk_at dksX4_unit_0 11 rfl rfl)
theorem dX4_unit_12 : decode cX4_unit 12 = .ok (.if_icmp .le 19, 3) := dk_164 0 19 (dk_at dksX4_unit_0 12 rfl rfl)
theorem dX4_unit_15 : decode cX4_unit 15 = .ok (.aload_n 0, 1) := dk_42 (dk_at dksX4_unit_0 15 rfl rfl)
theorem dX4_unit_16 : decode cX4_unit 16 = .ok (.getfield 68, 3) := dk_180 0 68 (dk_at dksX4_unit_0 16 rfl rfl)
theorem dX4_unit_19 : decode cX4_unit 19 = .ok (.aload_n 0, 1) := dk_42 (dk_at dksX4_unit_0 19 rfl rfl)
theorem dX4_unit_20 : decode cX4_unit 20 = .ok (.getfield 293, 3) := dk_180 1 37 (dk_at dksX4_unit_0 20 rfl rfl)
theorem dX4_unit_23 : decode cX4_unit 23 = .ok (.iconst 1, 1) := dk_4 (dk_at dksX4_unit_0 23 rfl rfl)
theorem dX4_unit_24 : decode cX4_unit 24 = .ok (.isub, 1) := dk_100 (dk_at dksX4_unit_1 0 rfl rfl)
theorem dX4_unit_25 : decode cX4_unit 25 = .ok (.iaload, 1) := dk_46 (dk_at dksX4_unit_1 1 rfl rfl)
theorem dX4_unit_26 : decode cX4_unit 26 = .ok (.bipush 7, 2) := dk_16 7 (dk_at dksX4_unit_1 2 rfl rfl)
theorem dX4_unit_28 : decode cX4_unit 28 = .ok (.if_icmp .lt 7, 3) := dk_161 0 7 (dk_at dksX4_unit_1 4 rfl rfl)
theorem dX4_unit_31 : decode cX4_unit 31 = .ok (.iconst 1, 1) := dk_4 (dk_at dksX4_unit_1 7 rfl rfl)
theorem dX4_unit_32 : decode cX4_unit 32 = .ok (.goto 4, 3) := dk_167 0 4 (dk_at dksX4_unit_1 8 rfl rfl)
theorem dX4_unit_35 : decode cX4_unit 35 = .ok (.iconst 0, 1) := dk_3 (dk_at dksX4_unit_1 11 rfl rfl)
theorem dX4_unit_36 : decode cX4_unit 36 = .ok (.istore_n 1, 1) := dk_60 (dk_at dksX4_unit_1 12 rfl rfl)
theorem dX4_unit_37 : decode cX4_unit 37 = .ok (.iload_n 1, 1) := dk_27 (dk_at dksX4_unit_1 13 rfl rfl)
theorem dX4_unit_38 : decode cX4_unit 38 = .ok (.ifCond .eq 17, 3) := dk_153 0 17 (dk_at dksX4_unit_1 14 rfl rfl)
theorem dX4_unit_41 : decode cX4_unit 41 = .ok (.aload_n 0, 1) := dk_42 (dk_at dksX4_unit_1 17 rfl rfl)
theorem dX4_unit_42 : decode cX4_unit 42 = .ok (.ldc2_w 191, 3) := dk_20 0 191 (dk_at dksX4_unit_1 18 rfl rfl)
theorem dX4_unit_45 : decode cX4_unit 45 = .ok (.invokevirtual 256, 3) := dk_182 1 0 (dk_at dksX4_unit_1 21 rfl rfl)
theorem dX4_unit_48 : decode cX4_unit 48 = .ok (.ifCond .eq 7, 3) := dk_153 0 7 (dk_at dksX4_unit_2 0 rfl rfl)
theorem dX4_unit_51 : decode cX4_unit 51 = .ok (.iconst 1, 1) := dk_4 (dk_at dksX4_unit_2 3 rfl rfl)
theorem dX4_unit_52 : decode cX4_unit 52 = .ok (.goto 4, 3) := dk_167 0 4 (dk_at dksX4_unit_2 4 rfl rfl)
theorem dX4_unit_55 : decode cX4_unit 55 = .ok (.iconst 0, 1) := dk_3 (dk_at dksX4_unit_2 7 rfl rfl)
theorem dX4_unit_56 : decode cX4_unit 56 = .ok (.istore_n 2, 1) := dk_61 (dk_at dksX4_unit_2 8 rfl rfl)
theorem dX4_unit_57 : decode cX4_unit 57 = .ok (.aload_n 0, 1) := dk_42 (dk_at dksX4_unit_2 9 rfl rfl)
theorem dX4_unit_58 : decode cX4_unit 58 = .ok (.bipush 40, 2) := dk_16 40 (dk_at dksX4_unit_2 10 rfl rfl)
theorem dX4_unit_60 : decode cX4_unit 60 = .ok (.invokevirtual 272, 3) := dk_182 1 16 (dk_at dksX4_unit_2 12 rfl rfl)
theorem dX4_unit_63 : decode cX4_unit 63 = .ok (.istore_n 3, 1) := dk_62 (dk_at dksX4_unit_2 15 rfl rfl)
theorem dX4_unit_64 : decode cX4_unit 64 = .ok (.aload_n 0, 1) := dk_42 (dk_at dksX4_unit_2 16 rfl rfl)
theorem dX4_unit_65 : decode cX4_unit 65 = .ok (.invokevirtual 308, 3) := dk_182 1 52 (dk_at dksX4_unit_2 17 rfl rfl)
theorem dX4_unit_68 : decode cX4_unit 68 = .ok (.istore 4, 2) := dk_54 4 (dk_at dksX4_unit_2 20 rfl rfl)
theorem dX4_unit_70 : decode cX4_unit 70 = .ok (.aload_n 0, 1) := dk_42 (dk_at dksX4_unit_2 22 rfl rfl)
theorem dX4_unit_71 : decode cX4_unit 71 = .ok (.getfield 30, 3) := dk_180 0 30 (dk_at dksX4_unit_3 0 rfl rfl)
theorem dX4_unit_74 : decode cX4_unit 74 = .ok (.aload_n 0, 1) := dk_42 (dk_at dksX4_unit_3 3 rfl rfl)
theorem dX4_unit_75 : decode cX4_unit 75 = .ok (.getfield 241, 3) := dk_180 0 241 (dk_at dksX4_unit_3 4 rfl rfl)
theorem dX4_unit_78 : decode cX4_unit 78 = .ok (.iaload, 1) := dk_46 (dk_at dksX4_unit_3 7 rfl rfl)
theorem dX4_unit_79 : decode cX4_unit 79 = .ok (.bipush 90, 2) := dk_16 90 (dk_at dksX4_unit_3 8 rfl rfl)
theorem dX4_unit_81 : decode cX4_unit 81 = .ok (.if_icmp .eq 12, 3) := dk_159 0 12 (dk_at dksX4_unit_3 10 rfl rfl)
theorem dX4_unit_84 : decode cX4_unit 84 = .ok (.aload_n 0, 1) := dk_42 (dk_at dksX4_unit_3 13 rfl rfl)
theorem dX4_unit_85 : decode cX4_unit 85 = .ok (.getfield 287, 3) := dk_180 1 31 (dk_at dksX4_unit_3 14 rfl rfl)
theorem dX4_unit_88 : decode cX4_unit 88 = .ok (.bipush 30, 2) := dk_16 30 (dk_at dksX4_unit_3 17 rfl rfl)
theorem dX4_unit_90 : decode cX4_unit 90 = .ok (.if_icmp .ne 7, 3) := dk_160 0 7 (dk_at dksX4_unit_3 19 rfl rfl)
theorem dX4_unit_93 : decode cX4_unit 93 = .ok (.iconst 1, 1) := dk_4 (dk_at dksX4_unit_3 22 rfl rfl)
theorem dX4_unit_94 : decode cX4_unit 94 = .ok (.goto 4, 3) := dk_167 0 4 (dk_at dksX4_unit_4 0 rfl rfl)
theorem dX4_unit_97 : decode cX4_unit 97 = .ok (.iconst 0, 1) := dk_3 (dk_at dksX4_unit_4 3 rfl rfl)
theorem dX4_unit_98 : decode cX4_unit 98 = .ok (.istore 5, 2) := dk_54 5 (dk_at dksX4_unit_4 4 rfl rfl)
theorem dX4_unit_100 : decode cX4_unit 100 = .ok (.iload_n 2, 1) := dk_28 (dk_at dksX4_unit_4 6 rfl rfl)
theorem dX4_unit_101 : decode cX4_unit 101 = .ok (.ifCond .ne 25, 3) := dk_154 0 25 (dk_at dksX4_unit_4 7 rfl rfl)
theorem dX4_unit_104 : decode cX4_unit 104 = .ok (.iload 4, 2) := dk_21 4 (dk_at dksX4_unit_4 10 rfl rfl)
theorem dX4_unit_106 : decode cX4_unit 106 = .ok (.ifCond .ne 15, 3) := dk_154 0 15 (dk_at dksX4_unit_4 12 rfl rfl)
theorem dX4_unit_109 : decode cX4_unit 109 = .ok (.aload_n 0, 1) := dk_42 (dk_at dksX4_unit_4 15 rfl rfl)
theorem dX4_unit_110 : decode cX4_unit 110 = .ok (.getfield 203, 3) := dk_180 0 203 (dk_at dksX4_unit_4 16 rfl rfl)
theorem dX4_unit_113 : decode cX4_unit 113 = .ok (.iconst 4, 1) := dk_7 (dk_at dksX4_unit_4 19 rfl rfl)
theorem dX4_unit_114 : decode cX4_unit 114 = .ok (.if_icmp .eq 7, 3) := dk_159 0 7 (dk_at dksX4_unit_4 20 rfl rfl)
theorem dX4_unit_117 : decode cX4_unit 117 = .ok (.iload_n 3, 1) := dk_29 (dk_at dksX4_unit_4 23 rfl rfl)
theorem dX4_unit_118 : decode cX4_unit 118 = .ok (.ifCond .eq 25, 3) := dk_153 0 25 (dk_at dksX4_unit_5 0 rfl rfl)
theorem dX4_unit_121 : decode cX4_unit 121 = .ok (.iload 5, 2) := dk_21 5 (dk_at dksX4_unit_5 3 rfl rfl)
theorem dX4_unit_123 : decode cX4_unit 123 = .ok (.ifCond .ne 20, 3) := dk_154 0 20 (dk_at dksX4_unit_5 5 rfl rfl)
theorem dX4_unit_126 : decode cX4_unit 126 = .ok (.iload_n 2, 1) := dk_28 (dk_at dksX4_unit_5 8 rfl rfl)
theorem dX4_unit_127 : decode cX4_unit 127 = .ok (.ifCond .ne 7, 3) := dk_154 0 7 (dk_at dksX4_unit_5 9 rfl rfl)
theorem dX4_unit_130 : decode cX4_unit 130 = .ok (.iload_n 3, 1) := dk_29 (dk_at dksX4_unit_5 12 rfl rfl)
theorem dX4_unit_131 : decode cX4_unit 131 = .ok (.ifCond .eq 16, 3) := dk_153 0 16 (dk_at dksX4_unit_5 13 rfl rfl)
theorem dX4_unit_134 : decode cX4_unit 134 = .ok (.aload_n 0, 1) := dk_42 (dk_at dksX4_unit_5 16 rfl rfl)
theorem dX4_unit_135 : decode cX4_unit 135 = .ok (.getfield 296, 3) := dk_180 1 40 (dk_at dksX4_unit_5 17 rfl rfl)
theorem dX4_unit_138 : decode cX4_unit 138 = .ok (.bipush 7, 2) := dk_16 7 (dk_at dksX4_unit_5 20 rfl rfl)
theorem dX4_unit_140 : decode cX4_unit 140 = .ok (.if_icmp .ne 7, 3) := dk_160 0 7 (dk_at dksX4_unit_6 0 rfl rfl)
theorem dX4_unit_143 : decode cX4_unit 143 = .ok (.aload_n 0, 1) := dk_42 (dk_at dksX4_unit_6 3 rfl rfl)
theorem dX4_unit_144 : decode cX4_unit 144 = .ok (.invokevirtual 238, 3) := dk_182 0 238 (dk_at dksX4_unit_6 4 rfl rfl)
theorem dX4_unit_147 : decode cX4_unit 147 = .ok (.aload_n 0, 1) := dk_42 (dk_at dksX4_unit_6 7 rfl rfl)
theorem dX4_unit_148 : decode cX4_unit 148 = .ok (.invokevirtual 231, 3) := dk_182 0 231 (dk_at dksX4_unit_6 8 rfl rfl)
theorem dX4_unit_151 : decode cX4_unit 151 = .ok (.ifCond .ne 5, 3) := dk_154 0 5 (dk_at dksX4_unit_6 11 rfl rfl)
theorem dX4_unit_154 : decode cX4_unit 154 = .ok (.iconst 1, 1) := dk_4 (dk_at dksX4_unit_6 14 rfl rfl)
theorem dX4_unit_155 : decode cX4_unit 155 = .ok (.ireturn, 1) := dk_172 (dk_at dksX4_unit_6 15 rfl rfl)
theorem dX4_unit_156 : decode cX4_unit 156 = .ok (.aload_n 0, 1) := dk_42 (dk_at dksX4_unit_6 16 rfl rfl)
theorem dX4_unit_157 : decode cX4_unit 157 = .ok (.getfield 30, 3) := dk_180 0 30 (dk_at dksX4_unit_6 17 rfl rfl)
theorem dX4_unit_160 : decode cX4_unit 160 = .ok (.aload_n 0, 1) := dk_42 (dk_at dksX4_unit_6 20 rfl rfl)
theorem dX4_unit_161 : decode cX4_unit 161 = .ok (.getfield 241, 3) := dk_180 0 241 (dk_at dksX4_unit_6 21 rfl rfl)
theorem dX4_unit_164 : decode cX4_unit 164 = .ok (.dup2, 1) := dk_92 (dk_at dksX4_unit_7 0 rfl rfl)
theorem dX4_unit_165 : decode cX4_unit 165 = .ok (.iaload, 1) := dk_46 (dk_at dksX4_unit_7 1 rfl rfl)
theorem dX4_unit_166 : decode cX4_unit 166 = .ok (.iload_n 2, 1) := dk_28 (dk_at dksX4_unit_7 2 rfl rfl)
theorem dX4_unit_167 : decode cX4_unit 167 = .ok (.ifCond .eq 7, 3) := dk_153 0 7 (dk_at dksX4_unit_7 3 rfl rfl)
theorem dX4_unit_170 : decode cX4_unit 170 = .ok (.iconst 0, 1) := dk_3 (dk_at dksX4_unit_7 6 rfl rfl)
theorem dX4_unit_171 : decode cX4_unit 171 = .ok (.goto 4, 3) := dk_167 0 4 (dk_at dksX4_unit_7 7 rfl rfl)
theorem dX4_unit_174 : decode cX4_unit 174 = .ok (.iconst 1, 1) := dk_4 (dk_at dksX4_unit_7 10 rfl rfl)
theorem dX4_unit_175 : decode cX4_unit 175 = .ok (.iadd, 1) := dk_96 (dk_at dksX4_unit_7 11 rfl rfl)
theorem dX4_unit_176 : decode cX4_unit 176 = .ok (.iastore, 1) := dk_79 (dk_at dksX4_unit_7 12 rfl rfl)
theorem dX4_unit_177 : decode cX4_unit 177 = .ok (.aload_n 0, 1) := dk_42 (dk_at dksX4_unit_7 13 rfl rfl)
theorem dX4_unit_178 : decode cX4_unit 178 = .ok (.dup, 1) := dk_89 (dk_at dksX4_unit_7 14 rfl rfl)
theorem dX4_unit_179 : decode cX4_unit 179 = .ok (.getfield 287, 3) := dk_180 1 31 (dk_at dksX4_unit_7 15 rfl rfl)
theorem dX4_unit_182 : decode cX4_unit 182 = .ok (.iload_n 2, 1) := dk_28 (dk_at dksX4_unit_7 18 rfl rfl)
theorem dX4_unit_183 : decode cX4_unit 183 = .ok (.ifCond .eq 7, 3) := dk_153 0 7 (dk_at dksX4_unit_7 19 rfl rfl)
theorem dX4_unit_186 : decode cX4_unit 186 = .ok (.iconst 0, 1) := dk_3 (dk_at dksX4_unit_7 22 rfl rfl)
theorem dX4_unit_187 : decode cX4_unit 187 = .ok (.goto 4, 3) := dk_167 0 4 (dk_at dksX4_unit_8 0 rfl rfl)
theorem dX4_unit_190 : decode cX4_unit 190 = .ok (.iconst 1, 1) := dk_4 (dk_at dksX4_unit_8 3 rfl rfl)
theorem dX4_unit_191 : decode cX4_unit 191 = .ok (.iadd, 1) := dk_96 (dk_at dksX4_unit_8 4 rfl rfl)
theorem dX4_unit_192 : decode cX4_unit 192 = .ok (.putfield 287, 3) := dk_181 1 31 (dk_at dksX4_unit_8 5 rfl rfl)
theorem dX4_unit_195 : decode cX4_unit 195 = .ok (.iload 4, 2) := dk_21 4 (dk_at dksX4_unit_8 8 rfl rfl)
theorem dX4_unit_197 : decode cX4_unit 197 = .ok (.ifCond .ne 10, 3) := dk_154 0 10 (dk_at dksX4_unit_8 10 rfl rfl)
theorem dX4_unit_200 : decode cX4_unit 200 = .ok (.aload_n 0, 1) := dk_42 (dk_at dksX4_unit_8 13 rfl rfl)
theorem dX4_unit_201 : decode cX4_unit 201 = .ok (.getfield 221, 3) := dk_180 0 221 (dk_at dksX4_unit_8 14 rfl rfl)
theorem dX4_unit_204 : decode cX4_unit 204 = .ok (.goto 4, 3) := dk_167 0 4 (dk_at dksX4_unit_8 17 rfl rfl)
theorem dX4_unit_207 : decode cX4_unit 207 = .ok (.iconst 0, 1) := dk_3 (dk_at dksX4_unit_8 20 rfl rfl)
theorem dX4_unit_208 : decode cX4_unit 208 = .ok (.istore 6, 2) := dk_54 6 (dk_at dksX4_unit_8 21 rfl rfl)
theorem dX4_unit_210 : decode cX4_unit 210 = .ok (.aload_n 0, 1) := dk_42 (dk_at dksX4_unit_8 23 rfl rfl)
theorem dX4_unit_211 : decode cX4_unit 211 = .ok (.invokevirtual 235, 3) := dk_182 0 235 (dk_at dksX4_unit_9 0 rfl rfl)
theorem dX4_unit_214 : decode cX4_unit 214 = .ok (.iload_n 2, 1) := dk_28 (dk_at dksX4_unit_9 3 rfl rfl)
theorem dX4_unit_215 : decode cX4_unit 215 = .ok (.ifCond .ne 7, 3) := dk_154 0 7 (dk_at dksX4_unit_9 4 rfl rfl)
theorem dX4_unit_218 : decode cX4_unit 218 = .ok (.iload_n 3, 1) := dk_29 (dk_at dksX4_unit_9 7 rfl rfl)
theorem dX4_unit_219 : decode cX4_unit 219 = .ok (.ifCond .eq 31, 3) := dk_153 0 31 (dk_at dksX4_unit_9 8 rfl rfl)
theorem dX4_unit_222 : decode cX4_unit 222 = .ok (.aload_n 0, 1) := dk_42 (dk_at dksX4_unit_9 11 rfl rfl)
theorem dX4_unit_223 : decode cX4_unit 223 = .ok (.iload_n 2, 1) := dk_28 (dk_at dksX4_unit_9 12 rfl rfl)
theorem dX4_unit_224 : decode cX4_unit 224 = .ok (.ifCond .eq 7, 3) := dk_153 0 7 (dk_at dksX4_unit_9 13 rfl rfl)
theorem dX4_unit_227 : decode cX4_unit 227 = .ok (.iconst 3, 1) := dk_6 (dk_at dksX4_unit_9 16 rfl rfl)
theorem dX4_unit_228 : decode cX4_unit 228 = .ok (.goto 5, 3) := dk_167 0 5 (dk_at dksX4_unit_9 17 rfl rfl)
theorem dX4_unit_231 : decode cX4_unit 231 = .ok (.bipush 7, 2) := dk_16 7 (dk_at dksX4_unit_9 20 rfl rfl)
theorem dX4_unit_233 : decode cX4_unit 233 = .ok (.bipush 126, 2) := dk_16 126 (dk_at dksX4_unit_9 22 rfl rfl)
theorem dX4_unit_235 : decode cX4_unit 235 = .ok (.invokevirtual 299, 3) := dk_182 1 43 (dk_at dksX4_unit_10 0 rfl rfl)
theorem dX4_unit_238 : decode cX4_unit 238 = .ok (.aload_n 0, 1) := dk_42 (dk_at dksX4_unit_10 3 rfl rfl)
theorem dX4_unit_239 : decode cX4_unit 239 = .ok (.dup, 1) := dk_89 (dk_at dksX4_unit_10 4 rfl rfl)
theorem dX4_unit_240 : decode cX4_unit 240 = .ok (.getfield 296, 3) := dk_180 1 40 (dk_at dksX4_unit_10 5 rfl rfl)
theorem dX4_unit_243 : decode cX4_unit 243 = .ok (.iconst 1, 1) := dk_4 (dk_at dksX4_unit_10 8 rfl rfl)
theorem dX4_unit_244 : decode cX4_unit 244 = .ok (.iadd, 1) := dk_96 (dk_at dksX4_unit_10 9 rfl rfl)
theorem dX4_unit_245 : decode cX4_unit 245 = .ok (.putfield 296, 3) := dk_181 1 40 (dk_at dksX4_unit_10 10 rfl rfl)
theorem dX4_unit_248 : decode cX4_unit 248 = .ok (.iconst 1, 1) := dk_4 (dk_at dksX4_unit_10 13 rfl rfl)
theorem dX4_unit_249 : decode cX4_unit 249 = .ok (.ireturn, 1) := dk_172 (dk_at dksX4_unit_10 14 rfl rfl)
theorem dX4_unit_250 : decode cX4_unit 250 = .ok (.aload_n 0, 1) := dk_42 (dk_at dksX4_unit_10 15 rfl rfl)
theorem dX4_unit_251 : decode cX4_unit 251 = .ok (.iload 4, 2) := dk_21 4 (dk_at dksX4_unit_10 16 rfl rfl)
theorem dX4_unit_253 : decode cX4_unit 253 = .ok (.ifCond .ne 8, 3) := dk_154 0 8 (dk_at dksX4_unit_10 18 rfl rfl)
theorem dX4_unit_256 : decode cX4_unit 256 = .ok (.bipush 110, 2) := dk_16 110 (dk_at dksX4_unit_10 21 rfl rfl)
theorem dX4_unit_258 : decode cX4_unit 258 = .ok (.goto 5, 3) := dk_167 0 5 (dk_at dksX4_unit_11 0 rfl rfl)
theorem dX4_unit_261 : decode cX4_unit 261 = .ok (.iload 4, 2) := dk_21 4 (dk_at dksX4_unit_11 3 rfl rfl)
theorem dX4_unit_263 : decode cX4_unit 263 = .ok (.iload 6, 2) := dk_21 6 (dk_at dksX4_unit_11 5 rfl rfl)
theorem dX4_unit_265 : decode cX4_unit 265 = .ok (.invokevirtual 311, 3) := dk_182 1 55 (dk_at dksX4_unit_11 7 rfl rfl)
theorem dX4_unit_268 : decode cX4_unit 268 = .ok (.iconst 0, 1) := dk_3 (dk_at dksX4_unit_11 10 rfl rfl)
theorem dX4_unit_269 : decode cX4_unit 269 = .ok (.ireturn, 1) := dk_172 (dk_at dksX4_unit_11 11 rfl rfl)
abbrev cX4_isSignHere : ByteArray := prog_27_method_10_code
def yX4_isSignHere : MethodName := ⟨RX4, "isSignHere", "(I)Z"⟩
def dkwX4_isSignHere_1 : List UInt8 := [3, 172]
abbrev dktX4_isSignHere_1 : List UInt8 := dkwX4_isSignHere_1 ++ []
def dkwX4_isSignHere_0 : List UInt8 := [42, 180, 0, 203, 8, 160, 0, 19, 42, 42, 180, 0, 196, 182, 0, 199, 27, 160, 0, 7, 4, 167, 0, 4]
abbrev dktX4_isSignHere_0 : List UInt8 := dkwX4_isSignHere_0 ++ dktX4_isSignHere_1
theorem dksX4_isSignHere_0 : cX4_isSignHere.data.toList.drop 0 = dktX4_isSignHere_0 := by decide +kernel
theorem dksX4_isSignHere_1 : cX4_isSignHere.data.toList.drop 24 = dktX4_isSignHere_1 := dk_seg dksX4_isSignHere_0 24 rfl rfl
theorem dX4_isSignHere_0 : decode cX4_isSignHere 0 = .ok (.aload_n 0, 1) := dk_42 (dk_at dksX4_isSignHere_0 0 rfl rfl)
theorem dX4_isSignHere_1 : decode cX4_isSignHere 1 = .ok (.getfield 203, 3) := dk_180 0 203 (dk_at dksX4_isSignHere_0 1 rfl rfl)
theorem dX4_isSignHere_4 : decode cX4_isSignHere 4 = .ok (.iconst 5, 1) := dk_8 (dk_at dksX4_isSignHere_0 4 rfl rfl)
theorem dX4_isSignHere_5 : decode cX4_isSignHere 5 = .ok (.if_icmp .ne 19, 3) := dk_160 0 19 (dk_at dksX4_isSignHere_0 5 rfl rfl)
theorem dX4_isSignHere_8 : decode cX4_isSignHere 8 = .ok (.aload_n 0, 1) := dk_42 (dk_at dksX4_isSignHere_0 8 rfl rfl)
theorem dX4_isSignHere_9 : decode cX4_isSignHere 9 = .ok (.aload_n 0, 1) := dk_42 (dk_at dksX4_isSignHere_0 9 rfl rfl)
theorem dX4_isSignHere_10 : decode cX4_isSignHere 10 = .ok (.getfield 196, 3) := dk_180 0 196 (dk_at dksX4_isSignHere_0 10 rfl rfl)
theorem dX4_isSignHere_13 : decode cX4_isSignHere 13 = .ok (.invokevirtual 199, 3) := dk_182 0 199 (dk_at dksX4_isSignHere_0 13 rfl rfl)
theorem dX4_isSignHere_16 : decode cX4_isSignHere 16 = .ok (.iload_n 1, 1) := dk_27 (dk_at dksX4_isSignHere_0 16 rfl rfl)
theorem dX4_isSignHere_17 : decode cX4_isSignHere 17 = .ok (.if_icmp .ne 7, 3) := dk_160 0 7 (dk_at dksX4_isSignHere_0 17 rfl rfl)
theorem dX4_isSignHere_20 : decode cX4_isSignHere 20 = .ok (.iconst 1, 1) := dk_4 (dk_at dksX4_isSignHere_0 20 rfl rfl)
theorem dX4_isSignHere_21 : decode cX4_isSignHere 21 = .ok (.goto 4, 3) := dk_167 0 4 (dk_at dksX4_isSignHere_0 21 rfl rfl)
theorem dX4_isSignHere_24 : decode cX4_isSignHere 24 = .ok (.iconst 0, 1) := dk_3 (dk_at dksX4_isSignHere_1 0 rfl rfl)
theorem dX4_isSignHere_25 : decode cX4_isSignHere 25 = .ok (.ireturn, 1) := dk_172 (dk_at dksX4_isSignHere_1 1 rfl rfl)
abbrev cX4_wordHere : ByteArray := prog_27_method_26_code
def yX4_wordHere : MethodName := ⟨RX4, "wordHere", "()I"⟩
def dkwX4_wordHere_4 : List UInt8 := [20, 0, 171, 182, 1, 0, 153, 0, 8, 16, 100, 167, 0, 4, 3, 172]
abbrev dktX4_wordHere_4 : List UInt8 := dkwX4_wordHere_4 ++ []
def dkwX4_wordHere_3 : List UInt8 := [182, 1, 0, 153, 0, 6, 16, 106, 172, 42, 20, 0, 185, 182, 1, 0, 153, 0, 6, 16, 116, 172, 42]
abbrev dktX4_wordHere_3 : List UInt8 := dkwX4_wordHere_3 ++ dktX4_wordHere_4
def dkwX4_wordHere_2 : List UInt8 := [153, 0, 6, 16, 114, 172, 42, 20, 0, 181, 182, 1, 0, 153, 0, 6, 16, 121, 172, 42, 20, 0, 183]
abbrev dktX4_wordHere_2 : List UInt8 := dkwX4_wordHere_2 ++ dktX4_wordHere_3
def dkwX4_wordHere_1 : List UInt8 := [16, 104, 172, 42, 20, 0, 177, 182, 1, 0, 153, 0, 6, 16, 108, 172, 42, 20, 0, 179, 182, 1, 0]
abbrev dktX4_wordHere_1 : List UInt8 := dkwX4_wordHere_1 ++ dktX4_wordHere_2
def dkwX4_wordHere_0 : List UInt8 := [42, 20, 0, 173, 182, 1, 0, 153, 0, 6, 16, 109, 172, 42, 20, 0, 175, 182, 1, 0, 153, 0, 6]
abbrev dktX4_wordHere_0 : List UInt8 := dkwX4_wordHere_0 ++ dktX4_wordHere_1
theorem dksX4_wordHere_0 : cX4_wordHere.data.toList.drop 0 = dktX4_wordHere_0 := by decide +kernel
theorem dksX4_wordHere_1 : cX4_wordHere.data.toList.drop 23 = dktX4_wordHere_1 := dk_seg dksX4_wordHere_0 23 rfl rfl
theorem dksX4_wordHere_2 : cX4_wordHere.data.toList.drop 46 = dktX4_wordHere_2 := dk_seg dksX4_wordHere_1 23 rfl rfl
theorem dksX4_wordHere_3 : cX4_wordHere.data.toList.drop 69 = dktX4_wordHere_3 := dk_seg dksX4_wordHere_2 23 rfl rfl
theorem dksX4_wordHere_4 : cX4_wordHere.data.toList.drop 92 = dktX4_wordHere_4 := dk_seg dksX4_wordHere_3 23 rfl rfl
theorem dX4_wordHere_0 : decode cX4_wordHere 0 = .ok (.aload_n 0, 1) := dk_42 (dk_at dksX4_wordHere_0 0 rfl rfl)
theorem dX4_wordHere_1 : decode cX4_wordHere 1 = .ok (.ldc2_w 173, 3) := dk_20 0 173 (dk_at dksX4_wordHere_0 1 rfl rfl)
theorem dX4_wordHere_4 : decode cX4_wordHere 4 = .ok (.invokevirtual 256, 3) := dk_182 1 0 (dk_at dksX4_wordHere_0 4 rfl rfl)
theorem dX4_wordHere_7 : decode cX4_wordHere 7 = .ok (.ifCond .eq 6, 3) := dk_153 0 6 (dk_at dksX4_wordHere_0 7 rfl rfl)
theorem dX4_wordHere_10 : decode cX4_wordHere 10 = .ok (.bipush 109, 2) := dk_16 109 (dk_at dksX4_wordHere_0 10 rfl rfl)
theorem dX4_wordHere_12 : decode cX4_wordHere 12 = .ok (.ireturn, 1) := dk_172 (dk_at dksX4_wordHere_0 12 rfl rfl)
theorem dX4_wordHere_13 : decode cX4_wordHere 13 = .ok (.aload_n 0, 1) := dk_42 (dk_at dksX4_wordHere_0 13 rfl rfl)
theorem dX4_wordHere_14 : decode cX4_wordHere 14 = .ok (.ldc2_w 175, 3) := dk_20 0 175 (dk_at dksX4_wordHere_0 14 rfl rfl)
theorem dX4_wordHere_17 : decode cX4_wordHere 17 = .ok (.invokevirtual 256, 3) := dk_182 1 0 (dk_at dksX4_wordHere_0 17 rfl rfl)
theorem dX4_wordHere_20 : decode cX4_wordHere 20 = .ok (.ifCond .eq 6, 3) := dk_153 0 6 (dk_at dksX4_wordHere_0 20 rfl rfl)
theorem dX4_wordHere_23 : decode cX4_wordHere 23 = .ok (.bipush 104, 2) := dk_16 104 (dk_at dksX4_wordHere_1 0 rfl rfl)
theorem dX4_wordHere_25 : decode cX4_wordHere 25 = .ok (.ireturn, 1) := dk_172 (dk_at dksX4_wordHere_1 2 rfl rfl)
theorem dX4_wordHere_26 : decode cX4_wordHere 26 = .ok (.aload_n 0, 1) := dk_42 (dk_at dksX4_wordHere_1 3 rfl rfl)
theorem dX4_wordHere_27 : decode cX4_wordHere 27 = .ok (.ldc2_w 177, 3) := dk_20 0 177 (dk_at dksX4_wordHere_1 4 rfl rfl)
theorem dX4_wordHere_30 : decode cX4_wordHere 30 = .ok (.invokevirtual 256, 3) := dk_182 1 0 (dk_at dksX4_wordHere_1 7 rfl rfl)
theorem dX4_wordHere_33 : decode cX4_wordHere 33 = .ok (.ifCond .eq 6, 3) := dk_153 0 6 (dk_at dksX4_wordHere_1 10 rfl rfl)
theorem dX4_wordHere_36 : decode cX4_wordHere 36 = .ok (.bipush 108, 2) := dk_16 108 (dk_at dksX4_wordHere_1 13 rfl rfl)
theorem dX4_wordHere_38 : decode cX4_wordHere 38 = .ok (.ireturn, 1) := dk_172 (dk_at dksX4_wordHere_1 15 rfl rfl)
theorem dX4_wordHere_39 : decode cX4_wordHere 39 = .ok (.aload_n 0, 1) := dk_42 (dk_at dksX4_wordHere_1 16 rfl rfl)
theorem dX4_wordHere_40 : decode cX4_wordHere 40 = .ok (.ldc2_w 179, 3) := dk_20 0 179 (dk_at dksX4_wordHere_1 17 rfl rfl)
theorem dX4_wordHere_43 : decode cX4_wordHere 43 = .ok (.invokevirtual 256, 3) := dk_182 1 0 (dk_at dksX4_wordHere_1 20 rfl rfl)
theorem dX4_wordHere_46 : decode cX4_wordHere 46 = .ok (.ifCond .eq 6, 3) := dk_153 0 6 (dk_at dksX4_wordHere_2 0 rfl rfl)
theorem dX4_wordHere_49 : decode cX4_wordHere 49 = .ok (.bipush 114, 2) := dk_16 114 (dk_at dksX4_wordHere_2 3 rfl rfl)
theorem dX4_wordHere_51 : decode cX4_wordHere 51 = .ok (.ireturn, 1) := dk_172 (dk_at dksX4_wordHere_2 5 rfl rfl)
theorem dX4_wordHere_52 : decode cX4_wordHere 52 = .ok (.aload_n 0, 1) := dk_42 (dk_at dksX4_wordHere_2 6 rfl rfl)
theorem dX4_wordHere_53 : decode cX4_wordHere 53 = .ok (.ldc2_w 181, 3) := dk_20 0 181 (dk_at dksX4_wordHere_2 7 rfl rfl)
theorem dX4_wordHere_56 : decode cX4_wordHere 56 = .ok (.invokevirtual 256, 3) := dk_182 1 0 (dk_at dksX4_wordHere_2 10 rfl rfl)
theorem dX4_wordHere_59 : decode cX4_wordHere 59 = .ok (.ifCond .eq 6, 3) := dk_153 0 6 (dk_at dksX4_wordHere_2 13 rfl rfl)
theorem dX4_wordHere_62 : decode cX4_wordHere 62 = .ok (.bipush 121, 2) := dk_16 121 (dk_at dksX4_wordHere_2 16 rfl rfl)
theorem dX4_wordHere_64 : decode cX4_wordHere 64 = .ok (.ireturn, 1) := dk_172 (dk_at dksX4_wordHere_2 18 rfl rfl)
theorem dX4_wordHere_65 : decode cX4_wordHere 65 = .ok (.aload_n 0, 1) := dk_42 (dk_at dksX4_wordHere_2 19 rfl rfl)
theorem dX4_wordHere_66 : decode cX4_wordHere 66 = .ok (.ldc2_w 183, 3) := dk_20 0 183 (dk_at dksX4_wordHere_2 20 rfl rfl)
theorem dX4_wordHere_69 : decode cX4_wordHere 69 = .ok (.invokevirtual 256, 3) := dk_182 1 0 (dk_at dksX4_wordHere_3 0 rfl rfl)
theorem dX4_wordHere_72 : decode cX4_wordHere 72 = .ok (.ifCond .eq 6, 3) := dk_153 0 6 (dk_at dksX4_wordHere_3 3 rfl rfl)
theorem dX4_wordHere_75 : decode cX4_wordHere 75 = .ok (.bipush 106, 2) := dk_16 106 (dk_at dksX4_wordHere_3 6 rfl rfl)
theorem dX4_wordHere_77 : decode cX4_wordHere 77 = .ok (.ireturn, 1) := dk_172 (dk_at dksX4_wordHere_3 8 rfl rfl)
theorem dX4_wordHere_78 : decode cX4_wordHere 78 = .ok (.aload_n 0, 1) := dk_42 (dk_at dksX4_wordHere_3 9 rfl rfl)
theorem dX4_wordHere_79 : decode cX4_wordHere 79 = .ok (.ldc2_w 185, 3) := dk_20 0 185 (dk_at dksX4_wordHere_3 10 rfl rfl)
theorem dX4_wordHere_82 : decode cX4_wordHere 82 = .ok (.invokevirtual 256, 3) := dk_182 1 0 (dk_at dksX4_wordHere_3 13 rfl rfl)
theorem dX4_wordHere_85 : decode cX4_wordHere 85 = .ok (.ifCond .eq 6, 3) := dk_153 0 6 (dk_at dksX4_wordHere_3 16 rfl rfl)
theorem dX4_wordHere_88 : decode cX4_wordHere 88 = .ok (.bipush 116, 2) := dk_16 116 (dk_at dksX4_wordHere_3 19 rfl rfl)
theorem dX4_wordHere_90 : decode cX4_wordHere 90 = .ok (.ireturn, 1) := dk_172 (dk_at dksX4_wordHere_3 21 rfl rfl)
theorem dX4_wordHere_91 : decode cX4_wordHere 91 = .ok (.aload_n 0, 1) := dk_42 (dk_at dksX4_wordHere_3 22 rfl rfl)
theorem dX4_wordHere_92 : decode cX4_wordHere 92 = .ok (.ldc2_w 171, 3) := dk_20 0 171 (dk_at dksX4_wordHere_4 0 rfl rfl)
theorem dX4_wordHere_95 : decode cX4_wordHere 95 = .ok (.invokevirtual 256, 3) := dk_182 1 0 (dk_at dksX4_wordHere_4 3 rfl rfl)
theorem dX4_wordHere_98 : decode cX4_wordHere 98 = .ok (.ifCond .eq 8, 3) := dk_153 0 8 (dk_at dksX4_wordHere_4 6 rfl rfl)
theorem dX4_wordHere_101 : decode cX4_wordHere 101 = .ok (.bipush 100, 2) := dk_16 100 (dk_at dksX4_wordHere_4 9 rfl rfl)
theorem dX4_wordHere_103 : decode cX4_wordHere 103 = .ok (.goto 4, 3) := dk_167 0 4 (dk_at dksX4_wordHere_4 11 rfl rfl)
theorem dX4_wordHere_106 : decode cX4_wordHere 106 = .ok (.iconst 0, 1) := dk_3 (dk_at dksX4_wordHere_4 14 rfl rfl)
theorem dX4_wordHere_107 : decode cX4_wordHere 107 = .ok (.ireturn, 1) := dk_172 (dk_at dksX4_wordHere_4 15 rfl rfl)
abbrev cX4_emit : ByteArray := prog_27_method_23_code
def yX4_emit : MethodName := ⟨RX4, "emit", "(II)V"⟩
def dkwX4_emit_1 : List UInt8 := [180, 0, 244, 4, 96, 181, 0, 244, 177]
abbrev dktX4_emit_1 : List UInt8 := dkwX4_emit_1 ++ []
def dkwX4_emit_0 : List UInt8 := [42, 180, 0, 62, 42, 180, 0, 244, 27, 79, 42, 180, 0, 65, 42, 180, 0, 244, 28, 79, 42, 89]
abbrev dktX4_emit_0 : List UInt8 := dkwX4_emit_0 ++ dktX4_emit_1
theorem dksX4_emit_0 : cX4_emit.data.toList.drop 0 = dktX4_emit_0 := by decide +kernel
theorem dksX4_emit_1 : cX4_emit.data.toList.drop 22 = dktX4_emit_1 := dk_seg dksX4_emit_0 22 rfl rfl
theorem dX4_emit_0 : decode cX4_emit 0 = .ok (.aload_n 0, 1) := dk_42 (dk_at dksX4_emit_0 0 rfl rfl)
theorem dX4_emit_1 : decode cX4_emit 1 = .ok (.getfield 62, 3) := dk_180 0 62 (dk_at dksX4_emit_0 1 rfl rfl)
theorem dX4_emit_4 : decode cX4_emit 4 = .ok (.aload_n 0, 1) := dk_42 (dk_at dksX4_emit_0 4 rfl rfl)
theorem dX4_emit_5 : decode cX4_emit 5 = .ok (.getfield 244, 3) := dk_180 0 244 (dk_at dksX4_emit_0 5 rfl rfl)
theorem dX4_emit_8 : decode cX4_emit 8 = .ok (.iload_n 1, 1) := dk_27 (dk_at dksX4_emit_0 8 rfl rfl)
theorem dX4_emit_9 : decode cX4_emit 9 = .ok (.iastore, 1) := dk_79 (dk_at dksX4_emit_0 9 rfl rfl)
theorem dX4_emit_10 : decode cX4_emit 10 = .ok (.aload_n 0, 1) := dk_42 (dk_at dksX4_emit_0 10 rfl rfl)
theorem dX4_emit_11 : decode cX4_emit 11 = .ok (.getfield 65, 3) := dk_180 0 65 (dk_at dksX4_emit_0 11 rfl rfl)
theorem dX4_emit_14 : decode cX4_emit 14 = .ok (.aload_n 0, 1) := dk_42 (dk_at dksX4_emit_0 14 rfl rfl)
theorem dX4_emit_15 : decode cX4_emit 15 = .ok (.getfield 244, 3) := dk_180 0 244 (dk_at dksX4_emit_0 15 rfl rfl)
theorem dX4_emit_18 : decode cX4_emit 18 = .ok (.iload_n 2, 1) := dk_28 (dk_at dksX4_emit_0 18 rfl rfl)
theorem dX4_emit_19 : decode cX4_emit 19 = .ok (.iastore, 1) := dk_79 (dk_at dksX4_emit_0 19 rfl rfl)
theorem dX4_emit_20 : decode cX4_emit 20 = .ok (.aload_n 0, 1) := dk_42 (dk_at dksX4_emit_0 20 rfl rfl)
theorem dX4_emit_21 : decode cX4_emit 21 = .ok (.dup, 1) := dk_89 (dk_at dksX4_emit_0 21 rfl rfl)
theorem dX4_emit_22 : decode cX4_emit 22 = .ok (.getfield 244, 3) := dk_180 0 244 (dk_at dksX4_emit_1 0 rfl rfl)
theorem dX4_emit_25 : decode cX4_emit 25 = .ok (.iconst 1, 1) := dk_4 (dk_at dksX4_emit_1 3 rfl rfl)
theorem dX4_emit_26 : decode cX4_emit 26 = .ok (.iadd, 1) := dk_96 (dk_at dksX4_emit_1 4 rfl rfl)
theorem dX4_emit_27 : decode cX4_emit 27 = .ok (.putfield 244, 3) := dk_181 0 244 (dk_at dksX4_emit_1 5 rfl rfl)
theorem dX4_emit_30 : decode cX4_emit 30 = .ok (.return_, 1) := dk_177 (dk_at dksX4_emit_1 8 rfl rfl)
abbrev cX4_behindUnit : ByteArray := prog_27_method_30_code
def yX4_behindUnit : MethodName := ⟨RX4, "behindUnit", "()Z"⟩
def dkwX4_behindUnit_8 : List UInt8 := [182, 1, 19, 3, 172]
abbrev dktX4_behindUnit_8 : List UInt8 := dkwX4_behindUnit_8 ++ []
def dkwX4_behindUnit_7 : List UInt8 := [16, 7, 160, 0, 23, 42, 89, 180, 1, 40, 4, 100, 181, 1, 40, 42, 42, 16, 41, 182, 1, 16]
abbrev dktX4_behindUnit_7 : List UInt8 := dkwX4_behindUnit_7 ++ dktX4_behindUnit_8
def dkwX4_behindUnit_6 : List UInt8 := [182, 0, 235, 4, 172, 42, 89, 180, 1, 37, 4, 100, 181, 1, 37, 42, 180, 0, 68, 42, 180, 1, 37, 46]
abbrev dktX4_behindUnit_6 : List UInt8 := dkwX4_behindUnit_6 ++ dktX4_behindUnit_7
def dkwX4_behindUnit_5 : List UInt8 := [27, 4, 160, 0, 8, 16, 124, 167, 0, 11, 42, 42, 180, 0, 196, 182, 0, 199, 182, 1, 43, 42]
abbrev dktX4_behindUnit_5 : List UInt8 := dkwX4_behindUnit_5 ++ dktX4_behindUnit_6
def dkwX4_behindUnit_4 : List UInt8 := [46, 3, 182, 1, 55, 167, 255, 178, 27, 158, 0, 42, 42, 27, 27, 5, 160, 0, 8, 16, 38, 167, 0, 21]
abbrev dktX4_behindUnit_4 : List UInt8 := dkwX4_behindUnit_4 ++ dktX4_behindUnit_5
def dkwX4_behindUnit_3 : List UInt8 := [46, 6, 160, 0, 13, 42, 89, 180, 1, 40, 4, 100, 181, 1, 40, 42, 42, 180, 0, 71, 42, 180, 1, 37]
abbrev dktX4_behindUnit_3 : List UInt8 := dkwX4_behindUnit_3 ++ dktX4_behindUnit_4
def dkwX4_behindUnit_2 : List UInt8 := [100, 46, 27, 161, 0, 53, 42, 89, 180, 1, 37, 4, 100, 181, 1, 37, 42, 180, 0, 68, 42, 180, 1, 37]
abbrev dktX4_behindUnit_2 : List UInt8 := dkwX4_behindUnit_2 ++ dktX4_behindUnit_3
def dkwX4_behindUnit_1 : List UInt8 := [180, 0, 68, 42, 180, 1, 37, 4, 100, 46, 16, 6, 163, 0, 68, 42, 180, 0, 68, 42, 180, 1, 37, 4]
abbrev dktX4_behindUnit_1 : List UInt8 := dkwX4_behindUnit_1 ++ dktX4_behindUnit_2
def dkwX4_behindUnit_0 : List UInt8 := [42, 182, 1, 58, 60, 27, 7, 160, 0, 16, 42, 182, 1, 61, 153, 0, 9, 42, 182, 0, 238, 4, 172, 42]
abbrev dktX4_behindUnit_0 : List UInt8 := dkwX4_behindUnit_0 ++ dktX4_behindUnit_1
theorem dksX4_behindUnit_0 : cX4_behindUnit.data.toList.drop 0 = dktX4_behindUnit_0 := by decide +kernel
theorem dksX4_behindUnit_1 : cX4_behindUnit.data.toList.drop 24 = dktX4_behindUnit_1 := dk_seg dksX4_behindUnit_0 24 rfl rfl
theorem dksX4_behindUnit_2 : cX4_behindUnit.data.toList.drop 48 = dktX4_behindUnit_2 := dk_seg dksX4_behindUnit_1 24 rfl rfl
theorem dksX4_behindUnit_3 : cX4_behindUnit.data.toList.drop 72 = dktX4_behindUnit_3 := dk_seg dksX4_behindUnit_2 24 rfl rfl
theorem dksX4_behindUnit_4 : cX4_behindUnit.data.toList.drop 96 = dktX4_behindUnit_4 := dk_seg dksX4_behindUnit_3 24 rfl rfl
theorem dksX4_behindUnit_5 : cX4_behindUnit.data.toList.drop 120 = dktX4_behindUnit_5 := dk_seg dksX4_behindUnit_4 24 rfl rfl
theorem dksX4_behindUnit_6 : cX4_behindUnit.data.toList.drop 142 = dktX4_behindUnit_6 := dk_seg dksX4_behindUnit_5 22 rfl rfl
theorem dksX4_behindUnit_7 : cX4_behindUnit.data.toList.drop 166 = dktX4_behindUnit_7 := dk_seg dksX4_behindUnit_6 24 rfl rfl
theorem dksX4_behindUnit_8 : cX4_behindUnit.data.toList.drop 188 = dktX4_behindUnit_8 := dk_seg dksX4_behindUnit_7 22 rfl rfl
theorem dX4_behindUnit_0 : decode cX4_behindUnit 0 = .ok (.aload_n 0, 1) := dk_42 (dk_at dksX4_behindUnit_0 0 rfl rfl)
theorem dX4_behindUnit_1 : decode cX4_behindUnit 1 = .ok (.invokevirtual 314, 3) := dk_182 1 58 (dk_at dksX4_behindUnit_0 1 rfl rfl)
theorem dX4_behindUnit_4 : decode cX4_behindUnit 4 = .ok (.istore_n 1, 1) := dk_60 (dk_at dksX4_behindUnit_0 4 rfl rfl)
theorem dX4_behindUnit_5 : decode cX4_behindUnit 5 = .ok (.iload_n 1, 1) := dk_27 (dk_at dksX4_behindUnit_0 5 rfl rfl)
theorem dX4_behindUnit_6 : decode cX4_behindUnit 6 = .ok (.iconst 4, 1) := dk_7 (dk_at dksX4_behindUnit_0 6 rfl rfl)
theorem dX4_behindUnit_7 : decode cX4_behindUnit 7 = .ok (.if_icmp .ne 16, 3) := dk_160 0 16 (dk_at dksX4_behindUnit_0 7 rfl rfl)
theorem dX4_behindUnit_10 : decode cX4_behindUnit 10 = .ok (.aload_n 0, 1) := dk_42 (dk_at dksX4_behindUnit_0 10 rfl rfl)
theorem dX4_behindUnit_11 : decode cX4_behindUnit 11 = .ok (.invokevirtual 317, 3) := dk_182 1 61 (dk_at dksX4_behindUnit_0 11 rfl rfl)
theorem dX4_behindUnit_14 : decode cX4_behindUnit 14 = .ok (.ifCond .eq 9, 3) := dk_153 0 9 (dk_at dksX4_behindUnit_0 14 rfl rfl)
theorem dX4_behindUnit_17 : decode cX4_behindUnit 17 = .ok (.aload_n 0, 1) := dk_42 (dk_at dksX4_behindUnit_0 17 rfl rfl)
theorem dX4_behindUnit_18 : decode cX4_behindUnit 18 = .ok (.invokevirtual 238, 3) := dk_182 0 238 (dk_at dksX4_behindUnit_0 18 rfl rfl)
theorem dX4_behindUnit_21 : decode cX4_behindUnit 21 = .ok (.iconst 1, 1) := dk_4 (dk_at dksX4_behindUnit_0 21 rfl rfl)
theorem dX4_behindUnit_22 : decode cX4_behindUnit 22 = .ok (.ireturn, 1) := dk_172 (dk_at dksX4_behindUnit_0 22 rfl rfl)
theorem dX4_behindUnit_23 : decode cX4_behindUnit 23 = .ok (.aload_n 0, 1) := dk_42 (dk_at dksX4_behindUnit_0 23 rfl rfl)
theorem dX4_behindUnit_24 : decode cX4_behindUnit 24 = .ok (.getfield 68, 3) := dk_180 0 68 (dk_at dksX4_behindUnit_1 0 rfl rfl)
theorem dX4_behindUnit_27 : decode cX4_behindUnit 27 = .ok (.aload_n 0, 1) := dk_42 (dk_at dksX4_behindUnit_1 3 rfl rfl)
theorem dX4_behindUnit_28 : decode cX4_behindUnit 28 = .ok (.getfield 293, 3) := dk_180 1 37 (dk_at dksX4_behindUnit_1 4 rfl rfl)
theorem dX4_behindUnit_31 : decode cX4_behindUnit 31 = .ok (.iconst 1, 1) := dk_4 (dk_at dksX4_behindUnit_1 7 rfl rfl)
theorem dX4_behindUnit_32 : decode cX4_behindUnit 32 = .ok (.isub, 1) := dk_100 (dk_at dksX4_behindUnit_1 8 rfl rfl)
theorem dX4_behindUnit_33 : decode cX4_behindUnit 33 = .ok (.iaload, 1) := dk_46 (dk_at dksX4_behindUnit_1 9 rfl rfl)
theorem dX4_behindUnit_34 : decode cX4_behindUnit 34 = .ok (.bipush 6, 2) := dk_16 6 (dk_at dksX4_behindUnit_1 10 rfl rfl)
theorem dX4_behindUnit_36 : decode cX4_behindUnit 36 = .ok (.if_icmp .gt 68, 3) := dk_163 0 68 (dk_at dksX4_behindUnit_1 12 rfl rfl)
theorem dX4_behindUnit_39 : decode cX4_behindUnit 39 = .ok (.aload_n 0, 1) := dk_42 (dk_at dksX4_behindUnit_1 15 rfl rfl)
theorem dX4_behindUnit_40 : decode cX4_behindUnit 40 = .ok (.getfield 68, 3) := dk_180 0 68 (dk_at dksX4_behindUnit_1 16 rfl rfl)
theorem dX4_behindUnit_43 : decode cX4_behindUnit 43 = .ok (.aload_n 0, 1) := dk_42 (dk_at dksX4_behindUnit_1 19 rfl rfl)
theorem dX4_behindUnit_44 : decode cX4_behindUnit 44 = .ok (.getfield 293, 3) := dk_180 1 37 (dk_at dksX4_behindUnit_1 20 rfl rfl)
theorem dX4_behindUnit_47 : decode cX4_behindUnit 47 = .ok (.iconst 1, 1) := dk_4 (dk_at dksX4_behindUnit_1 23 rfl rfl)
theorem dX4_behindUnit_48 : decode cX4_behindUnit 48 = .ok (.isub, 1) := dk_100 (dk_at dksX4_behindUnit_2 0 rfl rfl)
theorem dX4_behindUnit_49 : decode cX4_behindUnit 49 = .ok (.iaload, 1) := dk_46 (dk_at dksX4_behindUnit_2 1 rfl rfl)
theorem dX4_behindUnit_50 : decode cX4_behindUnit 50 = .ok (.iload_n 1, 1) := dk_27 (dk_at dksX4_behindUnit_2 2 rfl rfl)
theorem dX4_behindUnit_51 : decode cX4_behindUnit 51 = .ok (.if_icmp .lt 53, 3) := dk_161 0 53 (dk_at dksX4_behindUnit_2 3 rfl rfl)
theorem dX4_behindUnit_54 : decode cX4_behindUnit 54 = .ok (.aload_n 0, 1) := dk_42 (dk_at dksX4_behindUnit_2 6 rfl rfl)
theorem dX4_behindUnit_55 : decode cX4_behindUnit 55 = .ok (.dup, 1) := dk_89 (dk_at dksX4_behindUnit_2 7 rfl rfl)
theorem dX4_behindUnit_56 : decode cX4_behindUnit 56 = .ok (.getfield 293, 3) := dk_180 1 37 (dk_at dksX4_behindUnit_2 8 rfl rfl)
theorem dX4_behindUnit_59 : decode cX4_behindUnit 59 = .ok (.iconst 1, 1) := dk_4 (dk_at dksX4_behindUnit_2 11 rfl rfl)
theorem dX4_behindUnit_60 : decode cX4_behindUnit 60 = .ok (.isub, 1) := dk_100 (dk_at dksX4_behindUnit_2 12 rfl rfl)
theorem dX4_behindUnit_61 : decode cX4_behindUnit 61 = .ok (.putfield 293, 3) := dk_181 1 37 (dk_at dksX4_behindUnit_2 13 rfl rfl)
theorem dX4_behindUnit_64 : decode cX4_behindUnit 64 = .ok (.aload_n 0, 1) := dk_42 (dk_at dksX4_behindUnit_2 16 rfl rfl)
theorem dX4_behindUnit_65 : decode cX4_behindUnit 65 = .ok (.getfield 68, 3) := dk_180 0 68 (dk_at dksX4_behindUnit_2 17 rfl rfl)
theorem dX4_behindUnit_68 : decode cX4_behindUnit 68 = .ok (.aload_n 0, 1) := dk_42 (dk_at dksX4_behindUnit_2 20 rfl rfl)
theorem dX4_behindUnit_69 : decode cX4_behindUnit 69 = .ok (.getfield 293, 3) := dk_180 1 37 (dk_at dksX4_behindUnit_2 21 rfl rfl)
theorem dX4_behindUnit_72 : decode cX4_behindUnit 72 = .ok (.iaload, 1) := dk_46 (dk_at dksX4_behindUnit_3 0 rfl rfl)
theorem dX4_behindUnit_73 : decode cX4_behindUnit 73 = .ok (.iconst 3, 1) := dk_6 (dk_at dksX4_behindUnit_3 1 rfl rfl)
theorem dX4_behindUnit_74 : decode cX4_behindUnit 74 = .ok (.if_icmp .ne 13, 3) := dk_160 0 13 (dk_at dksX4_behindUnit_3 2 rfl rfl)
theorem dX4_behindUnit_77 : decode cX4_behindUnit 77 = .ok (.aload_n 0, 1) := dk_42 (dk_at dksX4_behindUnit_3 5 rfl rfl)
theorem dX4_behindUnit_78 : decode cX4_behindUnit 78 = .ok (.dup, 1) := dk_89 (dk_at dksX4_behindUnit_3 6 rfl rfl)
theorem dX4_behindUnit_79 : decode cX4_behindUnit 79 = .ok (.getfield 296, 3) := dk_180 1 40 (dk_at dksX4_behindUnit_3 7 rfl rfl)
theorem dX4_behindUnit_82 : decode cX4_behindUnit 82 = .ok (.iconst 1, 1) := dk_4 (dk_at dksX4_behindUnit_3 10 rfl rfl)
theorem dX4_behindUnit_83 : decode cX4_behindUnit 83 = .ok (.isub, 1) := dk_100 (dk_at dksX4_behindUnit_3 11 rfl rfl)
theorem dX4_behindUnit_84 : decode cX4_behindUnit 84 = .ok (.putfield 296, 3) := dk_181 1 40 (dk_at dksX4_behindUnit_3 12 rfl rfl)
theorem dX4_behindUnit_87 : decode cX4_behindUnit 87 = .ok (.aload_n 0, 1) := dk_42 (dk_at dksX4_behindUnit_3 15 rfl rfl)
theorem dX4_behindUnit_88 : decode cX4_behindUnit 88 = .ok (.aload_n 0, 1) := dk_42 (dk_at dksX4_behindUnit_3 16 rfl rfl)
theorem dX4_behindUnit_89 : decode cX4_behindUnit 89 = .ok (.getfield 71, 3) := dk_180 0 71 (dk_at dksX4_behindUnit_3 17 rfl rfl)
theorem dX4_behindUnit_92 : decode cX4_behindUnit 92 = .ok (.aload_n 0, 1) := dk_42 (dk_at dksX4_behindUnit_3 20 rfl rfl)
theorem dX4_behindUnit_93 : decode cX4_behindUnit 93 = .ok (.getfield 293, 3) := dk_180 1 37 (dk_at dksX4_behindUnit_3 21 rfl rfl)
theorem dX4_behindUnit_96 : decode cX4_behindUnit 96 = .ok (.iaload, 1) := dk_46 (dk_at dksX4_behindUnit_4 0 rfl rfl)
theorem dX4_behindUnit_97 : decode cX4_behindUnit 97 = .ok (.iconst 0, 1) := dk_3 (dk_at dksX4_behindUnit_4 1 rfl rfl)
theorem dX4_behindUnit_98 : decode cX4_behindUnit 98 = .ok (.invokevirtual 311, 3) := dk_182 1 55 (dk_at dksX4_behindUnit_4 2 rfl rfl)
theorem dX4_behindUnit_101 : decode cX4_behindUnit 101 = .ok (.goto (-78), 3) := dk_167 255 178 (dk_at dksX4_behindUnit_4 5 rfl rfl)
theorem dX4_behindUnit_104 : decode cX4_behindUnit 104 = .ok (.iload_n 1, 1) := dk_27 (dk_at dksX4_behindUnit_4 8 rfl rfl)
theorem dX4_behindUnit_105 : decode cX4_behindUnit 105 = .ok (.ifCond .le 42, 3) := dk_158 0 42 (dk_at dksX4_behindUnit_4 9 rfl rfl)
theorem dX4_behindUnit_108 : decode cX4_behindUnit 108 = .ok (.aload_n 0, 1) := dk_42 (dk_at dksX4_behindUnit_4 12 rfl rfl)
theorem dX4_behindUnit_109 : decode cX4_behindUnit 109 = .ok (.iload_n 1, 1) := dk_27 (dk_at dksX4_behindUnit_4 13 rfl rfl)
theorem dX4_behindUnit_110 : decode cX4_behindUnit 110 = .ok (.iload_n 1, 1) := dk_27 (dk_at dksX4_behindUnit_4 14 rfl rfl)
theorem dX4_behindUnit_111 : decode cX4_behindUnit 111 = .ok (.iconst 2, 1) := dk_5 (dk_at dksX4_behindUnit_4 15 rfl rfl)
theorem dX4_behindUnit_112 : decode cX4_behindUnit 112 = .ok (.if_icmp .ne 8, 3) := dk_160 0 8 (dk_at dksX4_behindUnit_4 16 rfl rfl)
theorem dX4_behindUnit_115 : decode cX4_behindUnit 115 = .ok (.bipush 38, 2) := dk_16 38 (dk_at dksX4_behindUnit_4 19 rfl rfl)
theorem dX4_behindUnit_117 : decode cX4_behindUnit 117 = .ok (.goto 21, 3) := dk_167 0 21 (dk_at dksX4_behindUnit_4 21 rfl rfl)
theorem dX4_behindUnit_120 : decode cX4_behindUnit 120 = .ok (.iload_n 1, 1) := dk_27 (dk_at dksX4_behindUnit_5 0 rfl rfl)
theorem dX4_behindUnit_121 : decode cX4_behindUnit 121 = .ok (.iconst 1, 1) := dk_4 (dk_at dksX4_behindUnit_5 1 rfl rfl)
theorem dX4_behindUnit_122 : decode cX4_behindUnit 122 = .ok (.if_icmp .ne 8, 3) := dk_160 0 8 (dk_at dksX4_behindUnit_5 2 rfl rfl)
theorem dX4_behindUnit_125 : decode cX4_behindUnit 125 = .ok (.bipush 124, 2) := dk_16 124 (dk_at dksX4_behindUnit_5 5 rfl rfl)
theorem dX4_behindUnit_127 : decode cX4_behindUnit 127 = .ok (.goto 11, 3) := dk_167 0 11 (dk_at dksX4_behindUnit_5 7 rfl rfl)
theorem dX4_behindUnit_130 : decode cX4_behindUnit 130 = .ok (.aload_n 0, 1) := dk_42 (dk_at dksX4_behindUnit_5 10 rfl rfl)
theorem dX4_behindUnit_131 : decode cX4_behindUnit 131 = .ok (.aload_n 0, 1) := dk_42 (dk_at dksX4_behindUnit_5 11 rfl rfl)
theorem dX4_behindUnit_132 : decode cX4_behindUnit 132 = .ok (.getfield 196, 3) := dk_180 0 196 (dk_at dksX4_behindUnit_5 12 rfl rfl)
theorem dX4_behindUnit_135 : decode cX4_behindUnit 135 = .ok (.invokevirtual 199, 3) := dk_182 0 199 (dk_at dksX4_behindUnit_5 15 rfl rfl)
theorem dX4_behindUnit_138 : decode cX4_behindUnit 138 = .ok (.invokevirtual 299, 3) := dk_182 1 43 (dk_at dksX4_behindUnit_5 18 rfl rfl)
theorem dX4_behindUnit_141 : decode cX4_behindUnit 141 = .ok (.aload_n 0, 1) := dk_42 (dk_at dksX4_behindUnit_5 21 rfl rfl)
theorem dX4_behindUnit_142 : decode cX4_behindUnit 142 = .ok (.invokevirtual 235, 3) := dk_182 0 235 (dk_at dksX4_behindUnit_6 0 rfl rfl)
theorem dX4_behindUnit_145 : decode cX4_behindUnit 145 = .ok (.iconst 1, 1) := dk_4 (dk_at dksX4_behindUnit_6 3 rfl rfl)
theorem dX4_behindUnit_146 : decode cX4_behindUnit 146 = .ok (.ireturn, 1) := dk_172 (dk_at dksX4_behindUnit_6 4 rfl rfl)
theorem dX4_behindUnit_147 : decode cX4_behindUnit 147 = .ok (.aload_n 0, 1) := dk_42 (dk_at dksX4_behindUnit_6 5 rfl rfl)
theorem dX4_behindUnit_148 : decode cX4_behindUnit 148 = .ok (.dup, 1) := dk_89 (dk_at dksX4_behindUnit_6 6 rfl rfl)
theorem dX4_behindUnit_149 : decode cX4_behindUnit 149 = .ok (.getfield 293, 3) := dk_180 1 37 (dk_at dksX4_behindUnit_6 7 rfl rfl)
theorem dX4_behindUnit_152 : decode cX4_behindUnit 152 = .ok (.iconst 1, 1) := dk_4 (dk_at dksX4_behindUnit_6 10 rfl rfl)
theorem dX4_behindUnit_153 : decode cX4_behindUnit 153 = .ok (.isub, 1) := dk_100 (dk_at dksX4_behindUnit_6 11 rfl rfl)
theorem dX4_behindUnit_154 : decode cX4_behindUnit 154 = .ok (.putfield 293, 3) := dk_181 1 37 (dk_at dksX4_behindUnit_6 12 rfl rfl)
theorem dX4_behindUnit_157 : decode cX4_behindUnit 157 = .ok (.aload_n 0, 1) := dk_42 (dk_at dksX4_behindUnit_6 15 rfl rfl)
theorem dX4_behindUnit_158 : decode cX4_behindUnit 158 = .ok (.getfield 68, 3) := dk_180 0 68 (dk_at dksX4_behindUnit_6 16 rfl rfl)
theorem dX4_behindUnit_161 : decode cX4_behindUnit 161 = .ok (.aload_n 0, 1) := dk_42 (dk_at dksX4_behindUnit_6 19 rfl rfl)
theorem dX4_behindUnit_162 : decode cX4_behindUnit 162 = .ok (.getfield 293, 3) := dk_180 1 37 (dk_at dksX4_behindUnit_6 20 rfl rfl)
theorem dX4_behindUnit_165 : decode cX4_behindUnit 165 = .ok (.iaload, 1) := dk_46 (dk_at dksX4_behindUnit_6 23 rfl rfl)
theorem dX4_behindUnit_166 : decode cX4_behindUnit 166 = .ok (.bipush 7, 2) := dk_16 7 (dk_at dksX4_behindUnit_7 0 rfl rfl)
theorem dX4_behindUnit_168 : decode cX4_behindUnit 168 = .ok (.if_icmp .ne 23, 3) := dk_160 0 23 (dk_at dksX4_behindUnit_7 2 rfl rfl)
theorem dX4_behindUnit_171 : decode cX4_behindUnit 171 = .ok (.aload_n 0, 1) := dk_42 (dk_at dksX4_behindUnit_7 5 rfl rfl)
theorem dX4_behindUnit_172 : decode cX4_behindUnit 172 = .ok (.dup, 1) := dk_89 (dk_at dksX4_behindUnit_7 6 rfl rfl)
theorem dX4_behindUnit_173 : decode cX4_behindUnit 173 = .ok (.getfield 296, 3) := dk_180 1 40 (dk_at dksX4_behindUnit_7 7 rfl rfl)
theorem dX4_behindUnit_176 : decode cX4_behindUnit 176 = .ok (.iconst 1, 1) := dk_4 (dk_at dksX4_behindUnit_7 10 rfl rfl)
theorem dX4_behindUnit_177 : decode cX4_behindUnit 177 = .ok (.isub, 1) := dk_100 (dk_at dksX4_behindUnit_7 11 rfl rfl)
theorem dX4_behindUnit_178 : decode cX4_behindUnit 178 = .ok (.putfield 296, 3) := dk_181 1 40 (dk_at dksX4_behindUnit_7 12 rfl rfl)
theorem dX4_behindUnit_181 : decode cX4_behindUnit 181 = .ok (.aload_n 0, 1) := dk_42 (dk_at dksX4_behindUnit_7 15 rfl rfl)
theorem dX4_behindUnit_182 : decode cX4_behindUnit 182 = .ok (.aload_n 0, 1) := dk_42 (dk_at dksX4_behindUnit_7 16 rfl rfl)
theorem dX4_behindUnit_183 : decode cX4_behindUnit 183 = .ok (.bipush 41, 2) := dk_16 41 (dk_at dksX4_behindUnit_7 17 rfl rfl)
theorem dX4_behindUnit_185 : decode cX4_behindUnit 185 = .ok (.invokevirtual 272, 3) := dk_182 1 16 (dk_at dksX4_behindUnit_7 19 rfl rfl)
theorem dX4_behindUnit_188 : decode cX4_behindUnit 188 = .ok (.invokevirtual 275, 3) := dk_182 1 19 (dk_at dksX4_behindUnit_8 0 rfl rfl)
theorem dX4_behindUnit_191 : decode cX4_behindUnit 191 = .ok (.iconst 0, 1) := dk_3 (dk_at dksX4_behindUnit_8 3 rfl rfl)
theorem dX4_behindUnit_192 : decode cX4_behindUnit 192 = .ok (.ireturn, 1) := dk_172 (dk_at dksX4_behindUnit_8 4 rfl rfl)
abbrev cX4_rankHere : ByteArray := prog_27_method_28_code
def yX4_rankHere : MethodName := ⟨RX4, "rankHere", "()I"⟩
def dkwX4_rankHere_4 : List UInt8 := [182, 1, 16, 153, 0, 8, 16, 6, 167, 0, 4, 3, 172]
abbrev dktX4_rankHere_4 : List UInt8 := dkwX4_rankHere_4 ++ []
def dkwX4_rankHere_3 : List UInt8 := [172, 42, 16, 42, 182, 1, 16, 154, 0, 21, 42, 16, 47, 182, 1, 16, 154, 0, 12, 42, 16, 37]
abbrev dktX4_rankHere_3 : List UInt8 := dkwX4_rankHere_3 ++ dktX4_rankHere_4
def dkwX4_rankHere_2 : List UInt8 := [153, 0, 5, 7, 172, 42, 16, 43, 182, 1, 16, 154, 0, 12, 42, 16, 45, 182, 1, 16, 153, 0, 5, 8]
abbrev dktX4_rankHere_2 : List UInt8 := dkwX4_rankHere_2 ++ dktX4_rankHere_3
def dkwX4_rankHere_1 : List UInt8 := [42, 16, 60, 182, 1, 16, 154, 0, 21, 42, 16, 62, 182, 1, 16, 154, 0, 12, 42, 16, 61, 182, 1, 16]
abbrev dktX4_rankHere_1 : List UInt8 := dkwX4_rankHere_1 ++ dktX4_rankHere_2
def dkwX4_rankHere_0 : List UInt8 := [42, 20, 0, 189, 182, 1, 0, 153, 0, 5, 5, 172, 42, 20, 0, 187, 182, 1, 0, 153, 0, 5, 4, 172]
abbrev dktX4_rankHere_0 : List UInt8 := dkwX4_rankHere_0 ++ dktX4_rankHere_1
theorem dksX4_rankHere_0 : cX4_rankHere.data.toList.drop 0 = dktX4_rankHere_0 := by decide +kernel
theorem dksX4_rankHere_1 : cX4_rankHere.data.toList.drop 24 = dktX4_rankHere_1 := dk_seg dksX4_rankHere_0 24 rfl rfl
theorem dksX4_rankHere_2 : cX4_rankHere.data.toList.drop 48 = dktX4_rankHere_2 := dk_seg dksX4_rankHere_1 24 rfl rfl
theorem dksX4_rankHere_3 : cX4_rankHere.data.toList.drop 72 = dktX4_rankHere_3 := dk_seg dksX4_rankHere_2 24 rfl rfl
theorem dksX4_rankHere_4 : cX4_rankHere.data.toList.drop 94 = dktX4_rankHere_4 := dk_seg dksX4_rankHere_3 22 rfl rfl
theorem dX4_rankHere_0 : decode cX4_rankHere 0 = .ok (.aload_n 0, 1) := dk_42 (dk_at dksX4_rankHere_0 0 rfl rfl)
theorem dX4_rankHere_1 : decode cX4_rankHere 1 = .ok (.ldc2_w 189, 3) := dk_20 0 189 (dk_at dksX4_rankHere_0 1 rfl rfl)
theorem dX4_rankHere_4 : decode cX4_rankHere 4 = .ok (.invokevirtual 256, 3) := dk_182 1 0 (dk_at dksX4_rankHere_0 4 rfl rfl)
theorem dX4_rankHere_7 : decode cX4_rankHere 7 = .ok (.ifCond .eq 5, 3) := dk_153 0 5 (dk_at dksX4_rankHere_0 7 rfl rfl)
theorem dX4_rankHere_10 : decode cX4_rankHere 10 = .ok (.iconst 2, 1) := dk_5 (dk_at dksX4_rankHere_0 10 rfl rfl)
theorem dX4_rankHere_11 : decode cX4_rankHere 11 = .ok (.ireturn, 1) := dk_172 (dk_at dksX4_rankHere_0 11 rfl rfl)
theorem dX4_rankHere_12 : decode cX4_rankHere 12 = .ok (.aload_n 0, 1) := dk_42 (dk_at dksX4_rankHere_0 12 rfl rfl)
theorem dX4_rankHere_13 : decode cX4_rankHere 13 = .ok (.ldc2_w 187, 3) := dk_20 0 187 (dk_at dksX4_rankHere_0 13 rfl rfl)
theorem dX4_rankHere_16 : decode cX4_rankHere 16 = .ok (.invokevirtual 256, 3) := dk_182 1 0 (dk_at dksX4_rankHere_0 16 rfl rfl)
theorem dX4_rankHere_19 : decode cX4_rankHere 19 = .ok (.ifCond .eq 5, 3) := dk_153 0 5 (dk_at dksX4_rankHere_0 19 rfl rfl)
theorem dX4_rankHere_22 : decode cX4_rankHere 22 = .ok (.iconst 1, 1) := dk_4 (dk_at dksX4_rankHere_0 22 rfl rfl)
theorem dX4_rankHere_23 : decode cX4_rankHere 23 = .ok (.ireturn, 1) := dk_172 (dk_at dksX4_rankHere_0 23 rfl rfl)
theorem dX4_rankHere_24 : decode cX4_rankHere 24 = .ok (.aload_n 0, 1) := dk_42 (dk_at dksX4_rankHere_1 0 rfl rfl)
theorem dX4_rankHere_25 : decode cX4_rankHere 25 = .ok (.bipush 60, 2) := dk_16 60 (dk_at dksX4_rankHere_1 1 rfl rfl)
theorem dX4_rankHere_27 : decode cX4_rankHere 27 = .ok (.invokevirtual 272, 3) := dk_182 1 16 (dk_at dksX4_rankHere_1 3 rfl rfl)
theorem dX4_rankHere_30 : decode cX4_rankHere 30 = .ok (.ifCond .ne 21, 3) := dk_154 0 21 (dk_at dksX4_rankHere_1 6 rfl rfl)
theorem dX4_rankHere_33 : decode cX4_rankHere 33 = .ok (.aload_n 0, 1) := dk_42 (dk_at dksX4_rankHere_1 9 rfl rfl)
theorem dX4_rankHere_34 : decode cX4_rankHere 34 = .ok (.bipush 62, 2) := dk_16 62 (dk_at dksX4_rankHere_1 10 rfl rfl)
theorem dX4_rankHere_36 : decode cX4_rankHere 36 = .ok (.invokevirtual 272, 3) := dk_182 1 16 (dk_at dksX4_rankHere_1 12 rfl rfl)
theorem dX4_rankHere_39 : decode cX4_rankHere 39 = .ok (.ifCond .ne 12, 3) := dk_154 0 12 (dk_at dksX4_rankHere_1 15 rfl rfl)
theorem dX4_rankHere_42 : decode cX4_rankHere 42 = .ok (.aload_n 0, 1) := dk_42 (dk_at dksX4_rankHere_1 18 rfl rfl)
theorem dX4_rankHere_43 : decode cX4_rankHere 43 = .ok (.bipush 61, 2) := dk_16 61 (dk_at dksX4_rankHere_1 19 rfl rfl)
theorem dX4_rankHere_45 : decode cX4_rankHere 45 = .ok (.invokevirtual 272, 3) := dk_182 1 16 (dk_at dksX4_rankHere_1 21 rfl rfl)
theorem dX4_rankHere_48 : decode cX4_rankHere 48 = .ok (.ifCond .eq 5, 3) := dk_153 0 5 (dk_at dksX4_rankHere_2 0 rfl rfl)
theorem dX4_rankHere_51 : decode cX4_rankHere 51 = .ok (.iconst 4, 1) := dk_7 (dk_at dksX4_rankHere_2 3 rfl rfl)
theorem dX4_rankHere_52 : decode cX4_rankHere 52 = .ok (.ireturn, 1) := dk_172 (dk_at dksX4_rankHere_2 4 rfl rfl)
theorem dX4_rankHere_53 : decode cX4_rankHere 53 = .ok (.aload_n 0, 1) := dk_42 (dk_at dksX4_rankHere_2 5 rfl rfl)
theorem dX4_rankHere_54 : decode cX4_rankHere 54 = .ok (.bipush 43, 2) := dk_16 43 (dk_at dksX4_rankHere_2 6 rfl rfl)
theorem dX4_rankHere_56 : decode cX4_rankHere 56 = .ok (.invokevirtual 272, 3) := dk_182 1 16 (dk_at dksX4_rankHere_2 8 rfl rfl)
theorem dX4_rankHere_59 : decode cX4_rankHere 59 = .ok (.ifCond .ne 12, 3) := dk_154 0 12 (dk_at dksX4_rankHere_2 11 rfl rfl)
theorem dX4_rankHere_62 : decode cX4_rankHere 62 = .ok (.aload_n 0, 1) := dk_42 (dk_at dksX4_rankHere_2 14 rfl rfl)
theorem dX4_rankHere_63 : decode cX4_rankHere 63 = .ok (.bipush 45, 2) := dk_16 45 (dk_at dksX4_rankHere_2 15 rfl rfl)
theorem dX4_rankHere_65 : decode cX4_rankHere 65 = .ok (.invokevirtual 272, 3) := dk_182 1 16 (dk_at dksX4_rankHere_2 17 rfl rfl)
theorem dX4_rankHere_68 : decode cX4_rankHere 68 = .ok (.ifCond .eq 5, 3) := dk_153 0 5 (dk_at dksX4_rankHere_2 20 rfl rfl)
theorem dX4_rankHere_71 : decode cX4_rankHere 71 = .ok (.iconst 5, 1) := dk_8 (dk_at dksX4_rankHere_2 23 rfl rfl)
theorem dX4_rankHere_72 : decode cX4_rankHere 72 = .ok (.ireturn, 1) := dk_172 (dk_at dksX4_rankHere_3 0 rfl rfl)
theorem dX4_rankHere_73 : decode cX4_rankHere 73 = .ok (.aload_n 0, 1) := dk_42 (dk_at dksX4_rankHere_3 1 rfl rfl)
theorem dX4_rankHere_74 : decode cX4_rankHere 74 = .ok (.bipush 42, 2) := dk_16 42 (dk_at dksX4_rankHere_3 2 rfl rfl)
theorem dX4_rankHere_76 : decode cX4_rankHere 76 = .ok (.invokevirtual 272, 3) := dk_182 1 16 (dk_at dksX4_rankHere_3 4 rfl rfl)
theorem dX4_rankHere_79 : decode cX4_rankHere 79 = .ok (.ifCond .ne 21, 3) := dk_154 0 21 (dk_at dksX4_rankHere_3 7 rfl rfl)
theorem dX4_rankHere_82 : decode cX4_rankHere 82 = .ok (.aload_n 0, 1) := dk_42 (dk_at dksX4_rankHere_3 10 rfl rfl)
theorem dX4_rankHere_83 : decode cX4_rankHere 83 = .ok (.bipush 47, 2) := dk_16 47 (dk_at dksX4_rankHere_3 11 rfl rfl)
theorem dX4_rankHere_85 : decode cX4_rankHere 85 = .ok (.invokevirtual 272, 3) := dk_182 1 16 (dk_at dksX4_rankHere_3 13 rfl rfl)
theorem dX4_rankHere_88 : decode cX4_rankHere 88 = .ok (.ifCond .ne 12, 3) := dk_154 0 12 (dk_at dksX4_rankHere_3 16 rfl rfl)
theorem dX4_rankHere_91 : decode cX4_rankHere 91 = .ok (.aload_n 0, 1) := dk_42 (dk_at dksX4_rankHere_3 19 rfl rfl)
theorem dX4_rankHere_92 : decode cX4_rankHere 92 = .ok (.bipush 37, 2) := dk_16 37 (dk_at dksX4_rankHere_3 20 rfl rfl)
theorem dX4_rankHere_94 : decode cX4_rankHere 94 = .ok (.invokevirtual 272, 3) := dk_182 1 16 (dk_at dksX4_rankHere_4 0 rfl rfl)
theorem dX4_rankHere_97 : decode cX4_rankHere 97 = .ok (.ifCond .eq 8, 3) := dk_153 0 8 (dk_at dksX4_rankHere_4 3 rfl rfl)
theorem dX4_rankHere_100 : decode cX4_rankHere 100 = .ok (.bipush 6, 2) := dk_16 6 (dk_at dksX4_rankHere_4 6 rfl rfl)
theorem dX4_rankHere_102 : decode cX4_rankHere 102 = .ok (.goto 4, 3) := dk_167 0 4 (dk_at dksX4_rankHere_4 8 rfl rfl)
theorem dX4_rankHere_105 : decode cX4_rankHere 105 = .ok (.iconst 0, 1) := dk_3 (dk_at dksX4_rankHere_4 11 rfl rfl)
theorem dX4_rankHere_106 : decode cX4_rankHere 106 = .ok (.ireturn, 1) := dk_172 (dk_at dksX4_rankHere_4 12 rfl rfl)
abbrev cX4_isCompared : ByteArray := prog_27_method_29_code
def yX4_isCompared : MethodName := ⟨RX4, "isCompared", "()Z"⟩
def dkwX4_isCompared_2 : List UInt8 := [167, 0, 4, 3, 172]
abbrev dktX4_isCompared_2 : List UInt8 := dkwX4_isCompared_2 ++ []
def dkwX4_isCompared_1 : List UInt8 := [16, 6, 160, 0, 9, 132, 1, 255, 167, 255, 232, 42, 180, 0, 68, 27, 46, 7, 160, 0, 7, 4]
abbrev dktX4_isCompared_1 : List UInt8 := dkwX4_isCompared_1 ++ dktX4_isCompared_2
def dkwX4_isCompared_0 : List UInt8 := [42, 180, 1, 37, 4, 100, 60, 42, 180, 0, 68, 27, 46, 8, 159, 0, 14, 42, 180, 0, 68, 27, 46]
abbrev dktX4_isCompared_0 : List UInt8 := dkwX4_isCompared_0 ++ dktX4_isCompared_1
theorem dksX4_isCompared_0 : cX4_isCompared.data.toList.drop 0 = dktX4_isCompared_0 := by decide +kernel
theorem dksX4_isCompared_1 : cX4_isCompared.data.toList.drop 23 = dktX4_isCompared_1 := dk_seg dksX4_isCompared_0 23 rfl rfl
theorem dksX4_isCompared_2 : cX4_isCompared.data.toList.drop 45 = dktX4_isCompared_2 := dk_seg dksX4_isCompared_1 22 rfl rfl
theorem dX4_isCompared_0 : decode cX4_isCompared 0 = .ok (.aload_n 0, 1) := dk_42 (dk_at dksX4_isCompared_0 0 rfl rfl)
theorem dX4_isCompared_1 : decode cX4_isCompared 1 = .ok (.getfield 293, 3) := dk_180 1 37 (dk_at dksX4_isCompared_0 1 rfl rfl)
theorem dX4_isCompared_4 : decode cX4_isCompared 4 = .ok (.iconst 1, 1) := dk_4 (dk_at dksX4_isCompared_0 4 rfl rfl)
theorem dX4_isCompared_5 : decode cX4_isCompared 5 = .ok (.isub, 1) := dk_100 (dk_at dksX4_isCompared_0 5 rfl rfl)
theorem dX4_isCompared_6 : decode cX4_isCompared 6 = .ok (.istore_n 1, 1) := dk_60 (dk_at dksX4_isCompared_0 6 rfl rfl)
theorem dX4_isCompared_7 : decode cX4_isCompared 7 = .ok (.aload_n 0, 1) := dk_42 (dk_at dksX4_isCompared_0 7 rfl rfl)
theorem dX4_isCompared_8 : decode cX4_isCompared 8 = .ok (.getfield 68, 3) := dk_180 0 68 (dk_at dksX4_isCompared_0 8 rfl rfl)
theorem dX4_isCompared_11 : decode cX4_isCompared 11 = .ok (.iload_n 1, 1) := dk_27 (dk_at dksX4_isCompared_0 11 rfl rfl)
theorem dX4_isCompared_12 : decode cX4_isCompared 12 = .ok (.iaload, 1) := dk_46 (dk_at dksX4_isCompared_0 12 rfl rfl)
theorem dX4_isCompared_13 : decode cX4_isCompared 13 = .ok (.iconst 5, 1) := dk_8 (dk_at dksX4_isCompared_0 13 rfl rfl)
theorem dX4_isCompared_14 : decode cX4_isCompared 14 = .ok (.if_icmp .eq 14, 3) := dk_159 0 14 (dk_at dksX4_isCompared_0 14 rfl rfl)
theorem dX4_isCompared_17 : decode cX4_isCompared 17 = .ok (.aload_n 0, 1) := dk_42 (dk_at dksX4_isCompared_0 17 rfl rfl)
theorem dX4_isCompared_18 : decode cX4_isCompared 18 = .ok (.getfield 68, 3) := dk_180 0 68 (dk_at dksX4_isCompared_0 18 rfl rfl)
theorem dX4_isCompared_21 : decode cX4_isCompared 21 = .ok (.iload_n 1, 1) := dk_27 (dk_at dksX4_isCompared_0 21 rfl rfl)
theorem dX4_isCompared_22 : decode cX4_isCompared 22 = .ok (.iaload, 1) := dk_46 (dk_at dksX4_isCompared_0 22 rfl rfl)
theorem dX4_isCompared_23 : decode cX4_isCompared 23 = .ok (.bipush 6, 2) := dk_16 6 (dk_at dksX4_isCompared_1 0 rfl rfl)
theorem dX4_isCompared_25 : decode cX4_isCompared 25 = .ok (.if_icmp .ne 9, 3) := dk_160 0 9 (dk_at dksX4_isCompared_1 2 rfl rfl)
theorem dX4_isCompared_28 : decode cX4_isCompared 28 = .ok (.iinc 1 (-1), 3) := dk_132 1 255 (dk_at dksX4_isCompared_1 5 rfl rfl)
theorem dX4_isCompared_31 : decode cX4_isCompared 31 = .ok (.goto (-24), 3) := dk_167 255 232 (dk_at dksX4_isCompared_1 8 rfl rfl)
theorem dX4_isCompared_34 : decode cX4_isCompared 34 = .ok (.aload_n 0, 1) := dk_42 (dk_at dksX4_isCompared_1 11 rfl rfl)
theorem dX4_isCompared_35 : decode cX4_isCompared 35 = .ok (.getfield 68, 3) := dk_180 0 68 (dk_at dksX4_isCompared_1 12 rfl rfl)
theorem dX4_isCompared_38 : decode cX4_isCompared 38 = .ok (.iload_n 1, 1) := dk_27 (dk_at dksX4_isCompared_1 15 rfl rfl)
theorem dX4_isCompared_39 : decode cX4_isCompared 39 = .ok (.iaload, 1) := dk_46 (dk_at dksX4_isCompared_1 16 rfl rfl)
theorem dX4_isCompared_40 : decode cX4_isCompared 40 = .ok (.iconst 4, 1) := dk_7 (dk_at dksX4_isCompared_1 17 rfl rfl)
theorem dX4_isCompared_41 : decode cX4_isCompared 41 = .ok (.if_icmp .ne 7, 3) := dk_160 0 7 (dk_at dksX4_isCompared_1 18 rfl rfl)
theorem dX4_isCompared_44 : decode cX4_isCompared 44 = .ok (.iconst 1, 1) := dk_4 (dk_at dksX4_isCompared_1 21 rfl rfl)
theorem dX4_isCompared_45 : decode cX4_isCompared 45 = .ok (.goto 4, 3) := dk_167 0 4 (dk_at dksX4_isCompared_2 0 rfl rfl)
theorem dX4_isCompared_48 : decode cX4_isCompared 48 = .ok (.iconst 0, 1) := dk_3 (dk_at dksX4_isCompared_2 3 rfl rfl)
theorem dX4_isCompared_49 : decode cX4_isCompared 49 = .ok (.ireturn, 1) := dk_172 (dk_at dksX4_isCompared_2 4 rfl rfl)
abbrev cX4_fault : ByteArray := prog_27_method_34_code
def yX4_fault : MethodName := ⟨RX4, "fault", "(I)I"⟩
def dkwX4_fault_1 : List UInt8 := [172]
abbrev dktX4_fault_1 : List UInt8 := dkwX4_fault_1 ++ []
def dkwX4_fault_0 : List UInt8 := [27, 154, 0, 10, 42, 180, 0, 156, 167, 0, 16, 27, 4, 160, 0, 10, 42, 180, 0, 16, 167, 0, 4, 2]
abbrev dktX4_fault_0 : List UInt8 := dkwX4_fault_0 ++ dktX4_fault_1
theorem dksX4_fault_0 : cX4_fault.data.toList.drop 0 = dktX4_fault_0 := by decide +kernel
theorem dksX4_fault_1 : cX4_fault.data.toList.drop 24 = dktX4_fault_1 := dk_seg dksX4_fault_0 24 rfl rfl
theorem dX4_fault_0 : decode cX4_fault 0 = .ok (.iload_n 1, 1) := dk_27 (dk_at dksX4_fault_0 0 rfl rfl)
theorem dX4_fault_1 : decode cX4_fault 1 = .ok (.ifCond .ne 10, 3) := dk_154 0 10 (dk_at dksX4_fault_0 1 rfl rfl)
theorem dX4_fault_4 : decode cX4_fault 4 = .ok (.aload_n 0, 1) := dk_42 (dk_at dksX4_fault_0 4 rfl rfl)
theorem dX4_fault_5 : decode cX4_fault 5 = .ok (.getfield 156, 3) := dk_180 0 156 (dk_at dksX4_fault_0 5 rfl rfl)
theorem dX4_fault_8 : decode cX4_fault 8 = .ok (.goto 16, 3) := dk_167 0 16 (dk_at dksX4_fault_0 8 rfl rfl)
theorem dX4_fault_11 : decode cX4_fault 11 = .ok (.iload_n 1, 1) := dk_27 (dk_at dksX4_fault_0 11 rfl rfl)
theorem dX4_fault_12 : decode cX4_fault 12 = .ok (.iconst 1, 1) := dk_4 (dk_at dksX4_fault_0 12 rfl rfl)
theorem dX4_fault_13 : decode cX4_fault 13 = .ok (.if_icmp .ne 10, 3) := dk_160 0 10 (dk_at dksX4_fault_0 13 rfl rfl)
theorem dX4_fault_16 : decode cX4_fault 16 = .ok (.aload_n 0, 1) := dk_42 (dk_at dksX4_fault_0 16 rfl rfl)
theorem dX4_fault_17 : decode cX4_fault 17 = .ok (.getfield 16, 3) := dk_180 0 16 (dk_at dksX4_fault_0 17 rfl rfl)
theorem dX4_fault_20 : decode cX4_fault 20 = .ok (.goto 4, 3) := dk_167 0 4 (dk_at dksX4_fault_0 20 rfl rfl)
theorem dX4_fault_23 : decode cX4_fault 23 = .ok (.iconst (-1), 1) := dk_2 (dk_at dksX4_fault_0 23 rfl rfl)
theorem dX4_fault_24 : decode cX4_fault 24 = .ok (.ireturn, 1) := dk_172 (dk_at dksX4_fault_1 0 rfl rfl)
abbrev cX4_turned : ByteArray := prog_27_method_45_code
def yX4_turned : MethodName := ⟨RX4, "turned", "(I)I"⟩
def dkwX4_turned_0 : List UInt8 := [42, 27, 182, 1, 102, 153, 0, 11, 42, 27, 182, 1, 93, 167, 0, 4, 2, 172]
abbrev dktX4_turned_0 : List UInt8 := dkwX4_turned_0 ++ []
theorem dksX4_turned_0 : cX4_turned.data.toList.drop 0 = dktX4_turned_0 := by decide +kernel
theorem dX4_turned_0 : decode cX4_turned 0 = .ok (.aload_n 0, 1) := dk_42 (dk_at dksX4_turned_0 0 rfl rfl)
theorem dX4_turned_1 : decode cX4_turned 1 = .ok (.iload_n 1, 1) := dk_27 (dk_at dksX4_turned_0 1 rfl rfl)
theorem dX4_turned_2 : decode cX4_turned 2 = .ok (.invokevirtual 358, 3) := dk_182 1 102 (dk_at dksX4_turned_0 2 rfl rfl)
theorem dX4_turned_5 : decode cX4_turned 5 = .ok (.ifCond .eq 11, 3) := dk_153 0 11 (dk_at dksX4_turned_0 5 rfl rfl)
theorem dX4_turned_8 : decode cX4_turned 8 = .ok (.aload_n 0, 1) := dk_42 (dk_at dksX4_turned_0 8 rfl rfl)
theorem dX4_turned_9 : decode cX4_turned 9 = .ok (.iload_n 1, 1) := dk_27 (dk_at dksX4_turned_0 9 rfl rfl)
theorem dX4_turned_10 : decode cX4_turned 10 = .ok (.invokevirtual 349, 3) := dk_182 1 93 (dk_at dksX4_turned_0 10 rfl rfl)
theorem dX4_turned_13 : decode cX4_turned 13 = .ok (.goto 4, 3) := dk_167 0 4 (dk_at dksX4_turned_0 13 rfl rfl)
theorem dX4_turned_16 : decode cX4_turned 16 = .ok (.iconst (-1), 1) := dk_2 (dk_at dksX4_turned_0 16 rfl rfl)
theorem dX4_turned_17 : decode cX4_turned 17 = .ok (.ireturn, 1) := dk_172 (dk_at dksX4_turned_0 17 rfl rfl)
abbrev cX4_isRow : ByteArray := prog_27_method_38_code
def yX4_isRow : MethodName := ⟨RX4, "isRow", "(I)Z"⟩
def dkwX4_isRow_0 : List UInt8 := [27, 155, 0, 17, 27, 4, 42, 182, 1, 86, 120, 162, 0, 7, 4, 167, 0, 4, 3, 172]
abbrev dktX4_isRow_0 : List UInt8 := dkwX4_isRow_0 ++ []
theorem dksX4_isRow_0 : cX4_isRow.data.toList.drop 0 = dktX4_isRow_0 := by decide +kernel
theorem dX4_isRow_0 : decode cX4_isRow 0 = .ok (.iload_n 1, 1) := dk_27 (dk_at dksX4_isRow_0 0 rfl rfl)
theorem dX4_isRow_1 : decode cX4_isRow 1 = .ok (.ifCond .lt 17, 3) := dk_155 0 17 (dk_at dksX4_isRow_0 1 rfl rfl)
theorem dX4_isRow_4 : decode cX4_isRow 4 = .ok (.iload_n 1, 1) := dk_27 (dk_at dksX4_isRow_0 4 rfl rfl)
theorem dX4_isRow_5 : decode cX4_isRow 5 = .ok (.iconst 1, 1) := dk_4 (dk_at dksX4_isRow_0 5 rfl rfl)
theorem dX4_isRow_6 : decode cX4_isRow 6 = .ok (.aload_n 0, 1) := dk_42 (dk_at dksX4_isRow_0 6 rfl rfl)
theorem dX4_isRow_7 : decode cX4_isRow 7 = .ok (.invokevirtual 342, 3) := dk_182 1 86 (dk_at dksX4_isRow_0 7 rfl rfl)
theorem dX4_isRow_10 : decode cX4_isRow 10 = .ok (.ishl, 1) := dk_120 (dk_at dksX4_isRow_0 10 rfl rfl)
theorem dX4_isRow_11 : decode cX4_isRow 11 = .ok (.if_icmp .ge 7, 3) := dk_162 0 7 (dk_at dksX4_isRow_0 11 rfl rfl)
theorem dX4_isRow_14 : decode cX4_isRow 14 = .ok (.iconst 1, 1) := dk_4 (dk_at dksX4_isRow_0 14 rfl rfl)
theorem dX4_isRow_15 : decode cX4_isRow 15 = .ok (.goto 4, 3) := dk_167 0 4 (dk_at dksX4_isRow_0 15 rfl rfl)
theorem dX4_isRow_18 : decode cX4_isRow 18 = .ok (.iconst 0, 1) := dk_3 (dk_at dksX4_isRow_0 18 rfl rfl)
theorem dX4_isRow_19 : decode cX4_isRow 19 = .ok (.ireturn, 1) := dk_172 (dk_at dksX4_isRow_0 19 rfl rfl)
abbrev cX4_width : ByteArray := prog_27_method_37_code
def yX4_width : MethodName := ⟨RX4, "width", "()I"⟩
def dkwX4_width_0 : List UInt8 := [42, 180, 0, 20, 42, 180, 0, 250, 46, 172]
abbrev dktX4_width_0 : List UInt8 := dkwX4_width_0 ++ []
theorem dksX4_width_0 : cX4_width.data.toList.drop 0 = dktX4_width_0 := by decide +kernel
theorem dX4_width_0 : decode cX4_width 0 = .ok (.aload_n 0, 1) := dk_42 (dk_at dksX4_width_0 0 rfl rfl)
theorem dX4_width_1 : decode cX4_width 1 = .ok (.getfield 20, 3) := dk_180 0 20 (dk_at dksX4_width_0 1 rfl rfl)
theorem dX4_width_4 : decode cX4_width 4 = .ok (.aload_n 0, 1) := dk_42 (dk_at dksX4_width_0 4 rfl rfl)
theorem dX4_width_5 : decode cX4_width 5 = .ok (.getfield 250, 3) := dk_180 0 250 (dk_at dksX4_width_0 5 rfl rfl)
theorem dX4_width_8 : decode cX4_width 8 = .ok (.iaload, 1) := dk_46 (dk_at dksX4_width_0 8 rfl rfl)
theorem dX4_width_9 : decode cX4_width 9 = .ok (.ireturn, 1) := dk_172 (dk_at dksX4_width_0 9 rfl rfl)
abbrev cX4_turnedRow : ByteArray := prog_27_method_43_code
def yX4_turnedRow : MethodName := ⟨RX4, "turnedRow", "(I)I"⟩
def dkwX4_turnedRow_1 : List UInt8 := [182, 1, 86, 4, 100, 29, 100, 120, 128, 61, 132, 3, 1, 167, 255, 223, 28, 172]
abbrev dktX4_turnedRow_1 : List UInt8 := dkwX4_turnedRow_1 ++ []
def dkwX4_turnedRow_0 : List UInt8 := [3, 61, 3, 62, 29, 42, 182, 1, 86, 162, 0, 31, 27, 29, 122, 4, 126, 4, 160, 0, 16, 28, 4, 42]
abbrev dktX4_turnedRow_0 : List UInt8 := dkwX4_turnedRow_0 ++ dktX4_turnedRow_1
theorem dksX4_turnedRow_0 : cX4_turnedRow.data.toList.drop 0 = dktX4_turnedRow_0 := by decide +kernel
theorem dksX4_turnedRow_1 : cX4_turnedRow.data.toList.drop 24 = dktX4_turnedRow_1 := dk_seg dksX4_turnedRow_0 24 rfl rfl
theorem dX4_turnedRow_0 : decode cX4_turnedRow 0 = .ok (.iconst 0, 1) := dk_3 (dk_at dksX4_turnedRow_0 0 rfl rfl)
theorem dX4_turnedRow_1 : decode cX4_turnedRow 1 = .ok (.istore_n 2, 1) := dk_61 (dk_at dksX4_turnedRow_0 1 rfl rfl)
theorem dX4_turnedRow_2 : decode cX4_turnedRow 2 = .ok (.iconst 0, 1) := dk_3 (dk_at dksX4_turnedRow_0 2 rfl rfl)
theorem dX4_turnedRow_3 : decode cX4_turnedRow 3 = .ok (.istore_n 3, 1) := dk_62 (dk_at dksX4_turnedRow_0 3 rfl rfl)
theorem dX4_turnedRow_4 : decode cX4_turnedRow 4 = .ok (.iload_n 3, 1) := dk_29 (dk_at dksX4_turnedRow_0 4 rfl rfl)
theorem dX4_turnedRow_5 : decode cX4_turnedRow 5 = .ok (.aload_n 0, 1) := dk_42 (dk_at dksX4_turnedRow_0 5 rfl rfl)
theorem dX4_turnedRow_6 : decode cX4_turnedRow 6 = .ok (.invokevirtual 342, 3) := dk_182 1 86 (dk_at dksX4_turnedRow_0 6 rfl rfl)
theorem dX4_turnedRow_9 : decode cX4_turnedRow 9 = .ok (.if_icmp .ge 31, 3) := dk_162 0 31 (dk_at dksX4_turnedRow_0 9 rfl rfl)
theorem dX4_turnedRow_12 : decode cX4_turnedRow 12 = .ok (.iload_n 1, 1) := dk_27 (dk_at dksX4_turnedRow_0 12 rfl rfl)
theorem dX4_turnedRow_13 : decode cX4_turnedRow 13 = .ok (.iload_n 3, 1) := dk_29 (dk_at dksX4_turnedRow_0 13 rfl rfl)
theorem dX4_turnedRow_14 : decode cX4_turnedRow 14 = .ok (.ishr, 1) := dk_122 (dk_at dksX4_turnedRow_0 14 rfl rfl)
theorem dX4_turnedRow_15 : decode cX4_turnedRow 15 = .ok (.iconst 1, 1) := dk_4 (dk_at dksX4_turnedRow_0 15 rfl rfl)
theorem dX4_turnedRow_16 : decode cX4_turnedRow 16 = .ok (.iand, 1) := dk_126 (dk_at dksX4_turnedRow_0 16 rfl rfl)
theorem dX4_turnedRow_17 : decode cX4_turnedRow 17 = .ok (.iconst 1, 1) := dk_4 (dk_at dksX4_turnedRow_0 17 rfl rfl)
theorem dX4_turnedRow_18 : decode cX4_turnedRow 18 = .ok (.if_icmp .ne 16, 3) := dk_160 0 16 (dk_at dksX4_turnedRow_0 18 rfl rfl)
theorem dX4_turnedRow_21 : decode cX4_turnedRow 21 = .ok (.iload_n 2, 1) := dk_28 (dk_at dksX4_turnedRow_0 21 rfl rfl)
theorem dX4_turnedRow_22 : decode cX4_turnedRow 22 = .ok (.iconst 1, 1) := dk_4 (dk_at dksX4_turnedRow_0 22 rfl rfl)
theorem dX4_turnedRow_23 : decode cX4_turnedRow 23 = .ok (.aload_n 0, 1) := dk_42 (dk_at dksX4_turnedRow_0 23 rfl rfl)
theorem dX4_turnedRow_24 : decode cX4_turnedRow 24 = .ok (.invokevirtual 342, 3) := dk_182 1 86 (dk_at dksX4_turnedRow_1 0 rfl rfl)
theorem dX4_turnedRow_27 : decode cX4_turnedRow 27 = .ok (.iconst 1, 1) := dk_4 (dk_at dksX4_turnedRow_1 3 rfl rfl)
theorem dX4_turnedRow_28 : decode cX4_turnedRow 28 = .ok (.isub, 1) := dk_100 (dk_at dksX4_turnedRow_1 4 rfl rfl)
theorem dX4_turnedRow_29 : decode cX4_turnedRow 29 = .ok (.iload_n 3, 1) := dk_29 (dk_at dksX4_turnedRow_1 5 rfl rfl)
theorem dX4_turnedRow_30 : decode cX4_turnedRow 30 = .ok (.isub, 1) := dk_100 (dk_at dksX4_turnedRow_1 6 rfl rfl)
theorem dX4_turnedRow_31 : decode cX4_turnedRow 31 = .ok (.ishl, 1) := dk_120 (dk_at dksX4_turnedRow_1 7 rfl rfl)
theorem dX4_turnedRow_32 : decode cX4_turnedRow 32 = .ok (.ior, 1) := dk_128 (dk_at dksX4_turnedRow_1 8 rfl rfl)
theorem dX4_turnedRow_33 : decode cX4_turnedRow 33 = .ok (.istore_n 2, 1) := dk_61 (dk_at dksX4_turnedRow_1 9 rfl rfl)
theorem dX4_turnedRow_34 : decode cX4_turnedRow 34 = .ok (.iinc 3 1, 3) := dk_132 3 1 (dk_at dksX4_turnedRow_1 10 rfl rfl)
theorem dX4_turnedRow_37 : decode cX4_turnedRow 37 = .ok (.goto (-33), 3) := dk_167 255 223 (dk_at dksX4_turnedRow_1 13 rfl rfl)
theorem dX4_turnedRow_40 : decode cX4_turnedRow 40 = .ok (.iload_n 2, 1) := dk_28 (dk_at dksX4_turnedRow_1 16 rfl rfl)
theorem dX4_turnedRow_41 : decode cX4_turnedRow 41 = .ok (.ireturn, 1) := dk_172 (dk_at dksX4_turnedRow_1 17 rfl rfl)
abbrev cX4_would : ByteArray := prog_27_method_46_code
def yX4_would : MethodName := ⟨RX4, "would", "(IIII)I"⟩
def dkwX4_would_2 : List UInt8 := [172]
abbrev dktX4_would_2 : List UInt8 := dkwX4_would_2 ++ []
def dkwX4_would_1 : List UInt8 := [21, 4, 3, 16, 99, 184, 1, 89, 153, 0, 15, 42, 27, 28, 29, 21, 4, 182, 1, 111, 167, 0, 4, 2]
abbrev dktX4_would_1 : List UInt8 := dkwX4_would_1 ++ dktX4_would_2
def dkwX4_would_0 : List UInt8 := [42, 27, 182, 1, 102, 153, 0, 41, 42, 28, 182, 1, 105, 153, 0, 33, 29, 184, 1, 108, 153, 0, 26]
abbrev dktX4_would_0 : List UInt8 := dkwX4_would_0 ++ dktX4_would_1
theorem dksX4_would_0 : cX4_would.data.toList.drop 0 = dktX4_would_0 := by decide +kernel
theorem dksX4_would_1 : cX4_would.data.toList.drop 23 = dktX4_would_1 := dk_seg dksX4_would_0 23 rfl rfl
theorem dksX4_would_2 : cX4_would.data.toList.drop 47 = dktX4_would_2 := dk_seg dksX4_would_1 24 rfl rfl
theorem dX4_would_0 : decode cX4_would 0 = .ok (.aload_n 0, 1) := dk_42 (dk_at dksX4_would_0 0 rfl rfl)
theorem dX4_would_1 : decode cX4_would 1 = .ok (.iload_n 1, 1) := dk_27 (dk_at dksX4_would_0 1 rfl rfl)
theorem dX4_would_2 : decode cX4_would 2 = .ok (.invokevirtual 358, 3) := dk_182 1 102 (dk_at dksX4_would_0 2 rfl rfl)
theorem dX4_would_5 : decode cX4_would 5 = .ok (.ifCond .eq 41, 3) := dk_153 0 41 (dk_at dksX4_would_0 5 rfl rfl)
theorem dX4_would_8 : decode cX4_would 8 = .ok (.aload_n 0, 1) := dk_42 (dk_at dksX4_would_0 8 rfl rfl)
theorem dX4_would_9 : decode cX4_would 9 = .ok (.iload_n 2, 1) := dk_28 (dk_at dksX4_would_0 9 rfl rfl)
theorem dX4_would_10 : decode cX4_would 10 = .ok (.invokevirtual 361, 3) := dk_182 1 105 (dk_at dksX4_would_0 10 rfl rfl)
theorem dX4_would_13 : decode cX4_would 13 = .ok (.ifCond .eq 33, 3) := dk_153 0 33 (dk_at dksX4_would_0 13 rfl rfl)
theorem dX4_would_16 : decode cX4_would 16 = .ok (.iload_n 3, 1) := dk_29 (dk_at dksX4_would_0 16 rfl rfl)
theorem dX4_would_17 : decode cX4_would 17 = .ok (.invokestatic 364, 3) := dk_184 1 108 (dk_at dksX4_would_0 17 rfl rfl)
theorem dX4_would_20 : decode cX4_would 20 = .ok (.ifCond .eq 26, 3) := dk_153 0 26 (dk_at dksX4_would_0 20 rfl rfl)
theorem dX4_would_23 : decode cX4_would 23 = .ok (.iload 4, 2) := dk_21 4 (dk_at dksX4_would_1 0 rfl rfl)
theorem dX4_would_25 : decode cX4_would 25 = .ok (.iconst 0, 1) := dk_3 (dk_at dksX4_would_1 2 rfl rfl)
theorem dX4_would_26 : decode cX4_would 26 = .ok (.bipush 99, 2) := dk_16 99 (dk_at dksX4_would_1 3 rfl rfl)
theorem dX4_would_28 : decode cX4_would 28 = .ok (.invokestatic 345, 3) := dk_184 1 89 (dk_at dksX4_would_1 5 rfl rfl)
theorem dX4_would_31 : decode cX4_would 31 = .ok (.ifCond .eq 15, 3) := dk_153 0 15 (dk_at dksX4_would_1 8 rfl rfl)
theorem dX4_would_34 : decode cX4_would 34 = .ok (.aload_n 0, 1) := dk_42 (dk_at dksX4_would_1 11 rfl rfl)
theorem dX4_would_35 : decode cX4_would 35 = .ok (.iload_n 1, 1) := dk_27 (dk_at dksX4_would_1 12 rfl rfl)
theorem dX4_would_36 : decode cX4_would 36 = .ok (.iload_n 2, 1) := dk_28 (dk_at dksX4_would_1 13 rfl rfl)
theorem dX4_would_37 : decode cX4_would 37 = .ok (.iload_n 3, 1) := dk_29 (dk_at dksX4_would_1 14 rfl rfl)
theorem dX4_would_38 : decode cX4_would 38 = .ok (.iload 4, 2) := dk_21 4 (dk_at dksX4_would_1 15 rfl rfl)
theorem dX4_would_40 : decode cX4_would 40 = .ok (.invokevirtual 367, 3) := dk_182 1 111 (dk_at dksX4_would_1 17 rfl rfl)
theorem dX4_would_43 : decode cX4_would 43 = .ok (.goto 4, 3) := dk_167 0 4 (dk_at dksX4_would_1 20 rfl rfl)
theorem dX4_would_46 : decode cX4_would 46 = .ok (.iconst (-1), 1) := dk_2 (dk_at dksX4_would_1 23 rfl rfl)
theorem dX4_would_47 : decode cX4_would 47 = .ok (.ireturn, 1) := dk_172 (dk_at dksX4_would_2 0 rfl rfl)
abbrev cX4_isHand : ByteArray := prog_27_method_39_code
def yX4_isHand : MethodName := ⟨RX4, "isHand", "(I)Z"⟩
def dkwX4_isHand_0 : List UInt8 := [27, 3, 42, 180, 0, 27, 42, 180, 0, 250, 46, 4, 100, 184, 1, 89, 172]
abbrev dktX4_isHand_0 : List UInt8 := dkwX4_isHand_0 ++ []
theorem dksX4_isHand_0 : cX4_isHand.data.toList.drop 0 = dktX4_isHand_0 := by decide +kernel
theorem dX4_isHand_0 : decode cX4_isHand 0 = .ok (.iload_n 1, 1) := dk_27 (dk_at dksX4_isHand_0 0 rfl rfl)
theorem dX4_isHand_1 : decode cX4_isHand 1 = .ok (.iconst 0, 1) := dk_3 (dk_at dksX4_isHand_0 1 rfl rfl)
theorem dX4_isHand_2 : decode cX4_isHand 2 = .ok (.aload_n 0, 1) := dk_42 (dk_at dksX4_isHand_0 2 rfl rfl)
theorem dX4_isHand_3 : decode cX4_isHand 3 = .ok (.getfield 27, 3) := dk_180 0 27 (dk_at dksX4_isHand_0 3 rfl rfl)
theorem dX4_isHand_6 : decode cX4_isHand 6 = .ok (.aload_n 0, 1) := dk_42 (dk_at dksX4_isHand_0 6 rfl rfl)
theorem dX4_isHand_7 : decode cX4_isHand 7 = .ok (.getfield 250, 3) := dk_180 0 250 (dk_at dksX4_isHand_0 7 rfl rfl)
theorem dX4_isHand_10 : decode cX4_isHand 10 = .ok (.iaload, 1) := dk_46 (dk_at dksX4_isHand_0 10 rfl rfl)
theorem dX4_isHand_11 : decode cX4_isHand 11 = .ok (.iconst 1, 1) := dk_4 (dk_at dksX4_isHand_0 11 rfl rfl)
theorem dX4_isHand_12 : decode cX4_isHand 12 = .ok (.isub, 1) := dk_100 (dk_at dksX4_isHand_0 12 rfl rfl)
theorem dX4_isHand_13 : decode cX4_isHand 13 = .ok (.invokestatic 345, 3) := dk_184 1 89 (dk_at dksX4_isHand_0 13 rfl rfl)
theorem dX4_isHand_16 : decode cX4_isHand 16 = .ok (.ireturn, 1) := dk_172 (dk_at dksX4_isHand_0 16 rfl rfl)
abbrev cX4_isIn : ByteArray := prog_27_method_35_code
def yX4_isIn : MethodName := ⟨RX4, "isIn", "(III)Z"⟩
def dkwX4_isIn_0 : List UInt8 := [26, 27, 161, 0, 12, 26, 28, 163, 0, 7, 4, 167, 0, 4, 3, 172]
abbrev dktX4_isIn_0 : List UInt8 := dkwX4_isIn_0 ++ []
theorem dksX4_isIn_0 : cX4_isIn.data.toList.drop 0 = dktX4_isIn_0 := by decide +kernel
theorem dX4_isIn_0 : decode cX4_isIn 0 = .ok (.iload_n 0, 1) := dk_26 (dk_at dksX4_isIn_0 0 rfl rfl)
theorem dX4_isIn_1 : decode cX4_isIn 1 = .ok (.iload_n 1, 1) := dk_27 (dk_at dksX4_isIn_0 1 rfl rfl)
theorem dX4_isIn_2 : decode cX4_isIn 2 = .ok (.if_icmp .lt 12, 3) := dk_161 0 12 (dk_at dksX4_isIn_0 2 rfl rfl)
theorem dX4_isIn_5 : decode cX4_isIn 5 = .ok (.iload_n 0, 1) := dk_26 (dk_at dksX4_isIn_0 5 rfl rfl)
theorem dX4_isIn_6 : decode cX4_isIn 6 = .ok (.iload_n 2, 1) := dk_28 (dk_at dksX4_isIn_0 6 rfl rfl)
theorem dX4_isIn_7 : decode cX4_isIn 7 = .ok (.if_icmp .gt 7, 3) := dk_163 0 7 (dk_at dksX4_isIn_0 7 rfl rfl)
theorem dX4_isIn_10 : decode cX4_isIn 10 = .ok (.iconst 1, 1) := dk_4 (dk_at dksX4_isIn_0 10 rfl rfl)
theorem dX4_isIn_11 : decode cX4_isIn 11 = .ok (.goto 4, 3) := dk_167 0 4 (dk_at dksX4_isIn_0 11 rfl rfl)
theorem dX4_isIn_14 : decode cX4_isIn 14 = .ok (.iconst 0, 1) := dk_3 (dk_at dksX4_isIn_0 14 rfl rfl)
theorem dX4_isIn_15 : decode cX4_isIn 15 = .ok (.ireturn, 1) := dk_172 (dk_at dksX4_isIn_0 15 rfl rfl)
abbrev cX4_isHeat : ByteArray := prog_27_method_41_code
def yX4_isHeat : MethodName := ⟨RX4, "isHeat", "(I)Z"⟩
def dkwX4_isHeat_0 : List UInt8 := [26, 3, 16, 9, 184, 1, 89, 172]
abbrev dktX4_isHeat_0 : List UInt8 := dkwX4_isHeat_0 ++ []
theorem dksX4_isHeat_0 : cX4_isHeat.data.toList.drop 0 = dktX4_isHeat_0 := by decide +kernel
theorem dX4_isHeat_0 : decode cX4_isHeat 0 = .ok (.iload_n 0, 1) := dk_26 (dk_at dksX4_isHeat_0 0 rfl rfl)
theorem dX4_isHeat_1 : decode cX4_isHeat 1 = .ok (.iconst 0, 1) := dk_3 (dk_at dksX4_isHeat_0 1 rfl rfl)
theorem dX4_isHeat_2 : decode cX4_isHeat 2 = .ok (.bipush 9, 2) := dk_16 9 (dk_at dksX4_isHeat_0 2 rfl rfl)
theorem dX4_isHeat_4 : decode cX4_isHeat 4 = .ok (.invokestatic 345, 3) := dk_184 1 89 (dk_at dksX4_isHeat_0 4 rfl rfl)
theorem dX4_isHeat_7 : decode cX4_isHeat 7 = .ok (.ireturn, 1) := dk_172 (dk_at dksX4_isHeat_0 7 rfl rfl)
abbrev cX4_castOf : ByteArray := prog_27_method_44_code
def yX4_castOf : MethodName := ⟨RX4, "castOf", "(IIII)I"⟩
def dkwX4_castOf_5 : List UInt8 := [153, 0, 12, 21, 5, 4, 21, 6, 120, 128, 54, 5, 132, 6, 1, 167, 255, 162, 21, 5, 172]
abbrev dktX4_castOf_5 : List UInt8 := dkwX4_castOf_5 ++ []
def dkwX4_castOf_4 : List UInt8 := [167, 0, 20, 42, 5, 28, 104, 4, 96, 182, 1, 99, 153, 0, 7, 4, 167, 0, 4, 3, 54, 8, 21, 8]
abbrev dktX4_castOf_4 : List UInt8 := dkwX4_castOf_4 ++ dktX4_castOf_5
def dkwX4_castOf_3 : List UInt8 := [54, 7, 21, 7, 153, 0, 21, 42, 5, 28, 104, 182, 1, 99, 154, 0, 7, 4, 167, 0, 24, 3]
abbrev dktX4_castOf_3 : List UInt8 := dkwX4_castOf_3 ++ dktX4_castOf_4
def dkwX4_castOf_2 : List UInt8 := [42, 21, 6, 181, 1, 64, 42, 180, 1, 67, 21, 6, 122, 4, 126, 4, 160, 0, 7, 4, 167, 0, 4, 3]
abbrev dktX4_castOf_2 : List UInt8 := dkwX4_castOf_2 ++ dktX4_castOf_3
def dkwX4_castOf_1 : List UInt8 := [181, 1, 73, 42, 21, 4, 181, 1, 76, 3, 54, 5, 3, 54, 6, 21, 6, 42, 182, 1, 86, 162, 0, 91]
abbrev dktX4_castOf_1 : List UInt8 := dkwX4_castOf_1 ++ dktX4_castOf_2
def dkwX4_castOf_0 : List UInt8 := [42, 42, 27, 182, 1, 93, 181, 1, 67, 42, 42, 180, 1, 67, 184, 1, 96, 181, 1, 70, 42, 29]
abbrev dktX4_castOf_0 : List UInt8 := dkwX4_castOf_0 ++ dktX4_castOf_1
theorem dksX4_castOf_0 : cX4_castOf.data.toList.drop 0 = dktX4_castOf_0 := by decide +kernel
theorem dksX4_castOf_1 : cX4_castOf.data.toList.drop 22 = dktX4_castOf_1 := dk_seg dksX4_castOf_0 22 rfl rfl
theorem dksX4_castOf_2 : cX4_castOf.data.toList.drop 46 = dktX4_castOf_2 := dk_seg dksX4_castOf_1 24 rfl rfl
theorem dksX4_castOf_3 : cX4_castOf.data.toList.drop 70 = dktX4_castOf_3 := dk_seg dksX4_castOf_2 24 rfl rfl
theorem dksX4_castOf_4 : cX4_castOf.data.toList.drop 92 = dktX4_castOf_4 := dk_seg dksX4_castOf_3 22 rfl rfl
theorem dksX4_castOf_5 : cX4_castOf.data.toList.drop 116 = dktX4_castOf_5 := dk_seg dksX4_castOf_4 24 rfl rfl
theorem dX4_castOf_0 : decode cX4_castOf 0 = .ok (.aload_n 0, 1) := dk_42 (dk_at dksX4_castOf_0 0 rfl rfl)
theorem dX4_castOf_1 : decode cX4_castOf 1 = .ok (.aload_n 0, 1) := dk_42 (dk_at dksX4_castOf_0 1 rfl rfl)
theorem dX4_castOf_2 : decode cX4_castOf 2 = .ok (.iload_n 1, 1) := dk_27 (dk_at dksX4_castOf_0 2 rfl rfl)
theorem dX4_castOf_3 : decode cX4_castOf 3 = .ok (.invokevirtual 349, 3) := dk_182 1 93 (dk_at dksX4_castOf_0 3 rfl rfl)
theorem dX4_castOf_6 : decode cX4_castOf 6 = .ok (.putfield 323, 3) := dk_181 1 67 (dk_at dksX4_castOf_0 6 rfl rfl)
theorem dX4_castOf_9 : decode cX4_castOf 9 = .ok (.aload_n 0, 1) := dk_42 (dk_at dksX4_castOf_0 9 rfl rfl)
theorem dX4_castOf_10 : decode cX4_castOf 10 = .ok (.aload_n 0, 1) := dk_42 (dk_at dksX4_castOf_0 10 rfl rfl)
theorem dX4_castOf_11 : decode cX4_castOf 11 = .ok (.getfield 323, 3) := dk_180 1 67 (dk_at dksX4_castOf_0 11 rfl rfl)
theorem dX4_castOf_14 : decode cX4_castOf 14 = .ok (.invokestatic 352, 3) := dk_184 1 96 (dk_at dksX4_castOf_0 14 rfl rfl)
theorem dX4_castOf_17 : decode cX4_castOf 17 = .ok (.putfield 326, 3) := dk_181 1 70 (dk_at dksX4_castOf_0 17 rfl rfl)
theorem dX4_castOf_20 : decode cX4_castOf 20 = .ok (.aload_n 0, 1) := dk_42 (dk_at dksX4_castOf_0 20 rfl rfl)
theorem dX4_castOf_21 : decode cX4_castOf 21 = .ok (.iload_n 3, 1) := dk_29 (dk_at dksX4_castOf_0 21 rfl rfl)
theorem dX4_castOf_22 : decode cX4_castOf 22 = .ok (.putfield 329, 3) := dk_181 1 73 (dk_at dksX4_castOf_1 0 rfl rfl)
theorem dX4_castOf_25 : decode cX4_castOf 25 = .ok (.aload_n 0, 1) := dk_42 (dk_at dksX4_castOf_1 3 rfl rfl)
theorem dX4_castOf_26 : decode cX4_castOf 26 = .ok (.iload 4, 2) := dk_21 4 (dk_at dksX4_castOf_1 4 rfl rfl)
theorem dX4_castOf_28 : decode cX4_castOf 28 = .ok (.putfield 332, 3) := dk_181 1 76 (dk_at dksX4_castOf_1 6 rfl rfl)
theorem dX4_castOf_31 : decode cX4_castOf 31 = .ok (.iconst 0, 1) := dk_3 (dk_at dksX4_castOf_1 9 rfl rfl)
theorem dX4_castOf_32 : decode cX4_castOf 32 = .ok (.istore 5, 2) := dk_54 5 (dk_at dksX4_castOf_1 10 rfl rfl)
theorem dX4_castOf_34 : decode cX4_castOf 34 = .ok (.iconst 0, 1) := dk_3 (dk_at dksX4_castOf_1 12 rfl rfl)
theorem dX4_castOf_35 : decode cX4_castOf 35 = .ok (.istore 6, 2) := dk_54 6 (dk_at dksX4_castOf_1 13 rfl rfl)
theorem dX4_castOf_37 : decode cX4_castOf 37 = .ok (.iload 6, 2) := dk_21 6 (dk_at dksX4_castOf_1 15 rfl rfl)
theorem dX4_castOf_39 : decode cX4_castOf 39 = .ok (.aload_n 0, 1) := dk_42 (dk_at dksX4_castOf_1 17 rfl rfl)
theorem dX4_castOf_40 : decode cX4_castOf 40 = .ok (.invokevirtual 342, 3) := dk_182 1 86 (dk_at dksX4_castOf_1 18 rfl rfl)
theorem dX4_castOf_43 : decode cX4_castOf 43 = .ok (.if_icmp .ge 91, 3) := dk_162 0 91 (dk_at dksX4_castOf_1 21 rfl rfl)
theorem dX4_castOf_46 : decode cX4_castOf 46 = .ok (.aload_n 0, 1) := dk_42 (dk_at dksX4_castOf_2 0 rfl rfl)
theorem dX4_castOf_47 : decode cX4_castOf 47 = .ok (.iload 6, 2) := dk_21 6 (dk_at dksX4_castOf_2 1 rfl rfl)
theorem dX4_castOf_49 : decode cX4_castOf 49 = .ok (.putfield 320, 3) := dk_181 1 64 (dk_at dksX4_castOf_2 3 rfl rfl)
theorem dX4_castOf_52 : decode cX4_castOf 52 = .ok (.aload_n 0, 1) := dk_42 (dk_at dksX4_castOf_2 6 rfl rfl)
theorem dX4_castOf_53 : decode cX4_castOf 53 = .ok (.getfield 323, 3) := dk_180 1 67 (dk_at dksX4_castOf_2 7 rfl rfl)
theorem dX4_castOf_56 : decode cX4_castOf 56 = .ok (.iload 6, 2) := dk_21 6 (dk_at dksX4_castOf_2 10 rfl rfl)
theorem dX4_castOf_58 : decode cX4_castOf 58 = .ok (.ishr, 1) := dk_122 (dk_at dksX4_castOf_2 12 rfl rfl)
theorem dX4_castOf_59 : decode cX4_castOf 59 = .ok (.iconst 1, 1) := dk_4 (dk_at dksX4_castOf_2 13 rfl rfl)
theorem dX4_castOf_60 : decode cX4_castOf 60 = .ok (.iand, 1) := dk_126 (dk_at dksX4_castOf_2 14 rfl rfl)
theorem dX4_castOf_61 : decode cX4_castOf 61 = .ok (.iconst 1, 1) := dk_4 (dk_at dksX4_castOf_2 15 rfl rfl)
theorem dX4_castOf_62 : decode cX4_castOf 62 = .ok (.if_icmp .ne 7, 3) := dk_160 0 7 (dk_at dksX4_castOf_2 16 rfl rfl)
theorem dX4_castOf_65 : decode cX4_castOf 65 = .ok (.iconst 1, 1) := dk_4 (dk_at dksX4_castOf_2 19 rfl rfl)
theorem dX4_castOf_66 : decode cX4_castOf 66 = .ok (.goto 4, 3) := dk_167 0 4 (dk_at dksX4_castOf_2 20 rfl rfl)
theorem dX4_castOf_69 : decode cX4_castOf 69 = .ok (.iconst 0, 1) := dk_3 (dk_at dksX4_castOf_2 23 rfl rfl)
theorem dX4_castOf_70 : decode cX4_castOf 70 = .ok (.istore 7, 2) := dk_54 7 (dk_at dksX4_castOf_3 0 rfl rfl)
theorem dX4_castOf_72 : decode cX4_castOf 72 = .ok (.iload 7, 2) := dk_21 7 (dk_at dksX4_castOf_3 2 rfl rfl)
theorem dX4_castOf_74 : decode cX4_castOf 74 = .ok (.ifCond .eq 21, 3) := dk_153 0 21 (dk_at dksX4_castOf_3 4 rfl rfl)
theorem dX4_castOf_77 : decode cX4_castOf 77 = .ok (.aload_n 0, 1) := dk_42 (dk_at dksX4_castOf_3 7 rfl rfl)
theorem dX4_castOf_78 : decode cX4_castOf 78 = .ok (.iconst 2, 1) := dk_5 (dk_at dksX4_castOf_3 8 rfl rfl)
theorem dX4_castOf_79 : decode cX4_castOf 79 = .ok (.iload_n 2, 1) := dk_28 (dk_at dksX4_castOf_3 9 rfl rfl)
theorem dX4_castOf_80 : decode cX4_castOf 80 = .ok (.imul, 1) := dk_104 (dk_at dksX4_castOf_3 10 rfl rfl)
theorem dX4_castOf_81 : decode cX4_castOf 81 = .ok (.invokevirtual 355, 3) := dk_182 1 99 (dk_at dksX4_castOf_3 11 rfl rfl)
theorem dX4_castOf_84 : decode cX4_castOf 84 = .ok (.ifCond .ne 7, 3) := dk_154 0 7 (dk_at dksX4_castOf_3 14 rfl rfl)
theorem dX4_castOf_87 : decode cX4_castOf 87 = .ok (.iconst 1, 1) := dk_4 (dk_at dksX4_castOf_3 17 rfl rfl)
theorem dX4_castOf_88 : decode cX4_castOf 88 = .ok (.goto 24, 3) := dk_167 0 24 (dk_at dksX4_castOf_3 18 rfl rfl)
theorem dX4_castOf_91 : decode cX4_castOf 91 = .ok (.iconst 0, 1) := dk_3 (dk_at dksX4_castOf_3 21 rfl rfl)
theorem dX4_castOf_92 : decode cX4_castOf 92 = .ok (.goto 20, 3) := dk_167 0 20 (dk_at dksX4_castOf_4 0 rfl rfl)
theorem dX4_castOf_95 : decode cX4_castOf 95 = .ok (.aload_n 0, 1) := dk_42 (dk_at dksX4_castOf_4 3 rfl rfl)
theorem dX4_castOf_96 : decode cX4_castOf 96 = .ok (.iconst 2, 1) := dk_5 (dk_at dksX4_castOf_4 4 rfl rfl)
theorem dX4_castOf_97 : decode cX4_castOf 97 = .ok (.iload_n 2, 1) := dk_28 (dk_at dksX4_castOf_4 5 rfl rfl)
theorem dX4_castOf_98 : decode cX4_castOf 98 = .ok (.imul, 1) := dk_104 (dk_at dksX4_castOf_4 6 rfl rfl)
theorem dX4_castOf_99 : decode cX4_castOf 99 = .ok (.iconst 1, 1) := dk_4 (dk_at dksX4_castOf_4 7 rfl rfl)
theorem dX4_castOf_100 : decode cX4_castOf 100 = .ok (.iadd, 1) := dk_96 (dk_at dksX4_castOf_4 8 rfl rfl)
theorem dX4_castOf_101 : decode cX4_castOf 101 = .ok (.invokevirtual 355, 3) := dk_182 1 99 (dk_at dksX4_castOf_4 9 rfl rfl)
theorem dX4_castOf_104 : decode cX4_castOf 104 = .ok (.ifCond .eq 7, 3) := dk_153 0 7 (dk_at dksX4_castOf_4 12 rfl rfl)
theorem dX4_castOf_107 : decode cX4_castOf 107 = .ok (.iconst 1, 1) := dk_4 (dk_at dksX4_castOf_4 15 rfl rfl)
theorem dX4_castOf_108 : decode cX4_castOf 108 = .ok (.goto 4, 3) := dk_167 0 4 (dk_at dksX4_castOf_4 16 rfl rfl)
theorem dX4_castOf_111 : decode cX4_castOf 111 = .ok (.iconst 0, 1) := dk_3 (dk_at dksX4_castOf_4 19 rfl rfl)
theorem dX4_castOf_112 : decode cX4_castOf 112 = .ok (.istore 8, 2) := dk_54 8 (dk_at dksX4_castOf_4 20 rfl rfl)
theorem dX4_castOf_114 : decode cX4_castOf 114 = .ok (.iload 8, 2) := dk_21 8 (dk_at dksX4_castOf_4 22 rfl rfl)
theorem dX4_castOf_116 : decode cX4_castOf 116 = .ok (.ifCond .eq 12, 3) := dk_153 0 12 (dk_at dksX4_castOf_5 0 rfl rfl)
theorem dX4_castOf_119 : decode cX4_castOf 119 = .ok (.iload 5, 2) := dk_21 5 (dk_at dksX4_castOf_5 3 rfl rfl)
theorem dX4_castOf_121 : decode cX4_castOf 121 = .ok (.iconst 1, 1) := dk_4 (dk_at dksX4_castOf_5 5 rfl rfl)
theorem dX4_castOf_122 : decode cX4_castOf 122 = .ok (.iload 6, 2) := dk_21 6 (dk_at dksX4_castOf_5 6 rfl rfl)
theorem dX4_castOf_124 : decode cX4_castOf 124 = .ok (.ishl, 1) := dk_120 (dk_at dksX4_castOf_5 8 rfl rfl)
theorem dX4_castOf_125 : decode cX4_castOf 125 = .ok (.ior, 1) := dk_128 (dk_at dksX4_castOf_5 9 rfl rfl)
theorem dX4_castOf_126 : decode cX4_castOf 126 = .ok (.istore 5, 2) := dk_54 5 (dk_at dksX4_castOf_5 10 rfl rfl)
theorem dX4_castOf_128 : decode cX4_castOf 128 = .ok (.iinc 6 1, 3) := dk_132 6 1 (dk_at dksX4_castOf_5 12 rfl rfl)
theorem dX4_castOf_131 : decode cX4_castOf 131 = .ok (.goto (-94), 3) := dk_167 255 162 (dk_at dksX4_castOf_5 15 rfl rfl)
theorem dX4_castOf_134 : decode cX4_castOf 134 = .ok (.iload 5, 2) := dk_21 5 (dk_at dksX4_castOf_5 18 rfl rfl)
theorem dX4_castOf_136 : decode cX4_castOf 136 = .ok (.ireturn, 1) := dk_172 (dk_at dksX4_castOf_5 20 rfl rfl)
abbrev cX4_bitsOf : ByteArray := prog_27_method_36_code
def yX4_bitsOf : MethodName := ⟨RX4, "bitsOf", "(I)I"⟩
def dkwX4_bitsOf_0 : List UInt8 := [3, 60, 26, 61, 28, 153, 0, 15, 132, 1, 1, 28, 28, 4, 100, 126, 61, 167, 255, 243, 27, 172]
abbrev dktX4_bitsOf_0 : List UInt8 := dkwX4_bitsOf_0 ++ []
theorem dksX4_bitsOf_0 : cX4_bitsOf.data.toList.drop 0 = dktX4_bitsOf_0 := by decide +kernel
theorem dX4_bitsOf_0 : decode cX4_bitsOf 0 = .ok (.iconst 0, 1) := dk_3 (dk_at dksX4_bitsOf_0 0 rfl rfl)
theorem dX4_bitsOf_1 : decode cX4_bitsOf 1 = .ok (.istore_n 1, 1) := dk_60 (dk_at dksX4_bitsOf_0 1 rfl rfl)
theorem dX4_bitsOf_2 : decode cX4_bitsOf 2 = .ok (.iload_n 0, 1) := dk_26 (dk_at dksX4_bitsOf_0 2 rfl rfl)
theorem dX4_bitsOf_3 : decode cX4_bitsOf 3 = .ok (.istore_n 2, 1) := dk_61 (dk_at dksX4_bitsOf_0 3 rfl rfl)
theorem dX4_bitsOf_4 : decode cX4_bitsOf 4 = .ok (.iload_n 2, 1) := dk_28 (dk_at dksX4_bitsOf_0 4 rfl rfl)
theorem dX4_bitsOf_5 : decode cX4_bitsOf 5 = .ok (.ifCond .eq 15, 3) := dk_153 0 15 (dk_at dksX4_bitsOf_0 5 rfl rfl)
theorem dX4_bitsOf_8 : decode cX4_bitsOf 8 = .ok (.iinc 1 1, 3) := dk_132 1 1 (dk_at dksX4_bitsOf_0 8 rfl rfl)
theorem dX4_bitsOf_11 : decode cX4_bitsOf 11 = .ok (.iload_n 2, 1) := dk_28 (dk_at dksX4_bitsOf_0 11 rfl rfl)
theorem dX4_bitsOf_12 : decode cX4_bitsOf 12 = .ok (.iload_n 2, 1) := dk_28 (dk_at dksX4_bitsOf_0 12 rfl rfl)
theorem dX4_bitsOf_13 : decode cX4_bitsOf 13 = .ok (.iconst 1, 1) := dk_4 (dk_at dksX4_bitsOf_0 13 rfl rfl)
theorem dX4_bitsOf_14 : decode cX4_bitsOf 14 = .ok (.isub, 1) := dk_100 (dk_at dksX4_bitsOf_0 14 rfl rfl)
theorem dX4_bitsOf_15 : decode cX4_bitsOf 15 = .ok (.iand, 1) := dk_126 (dk_at dksX4_bitsOf_0 15 rfl rfl)
theorem dX4_bitsOf_16 : decode cX4_bitsOf 16 = .ok (.istore_n 2, 1) := dk_61 (dk_at dksX4_bitsOf_0 16 rfl rfl)
theorem dX4_bitsOf_17 : decode cX4_bitsOf 17 = .ok (.goto (-13), 3) := dk_167 255 243 (dk_at dksX4_bitsOf_0 17 rfl rfl)
theorem dX4_bitsOf_20 : decode cX4_bitsOf 20 = .ok (.iload_n 1, 1) := dk_27 (dk_at dksX4_bitsOf_0 20 rfl rfl)
theorem dX4_bitsOf_21 : decode cX4_bitsOf 21 = .ok (.ireturn, 1) := dk_172 (dk_at dksX4_bitsOf_0 21 rfl rfl)
abbrev cX4_comes : ByteArray := prog_27_method_33_code
def yX4_comes : MethodName := ⟨RX4, "comes", "(I)I"⟩
def dkwX4_comes_6 : List UInt8 := [132, 3, 1, 167, 255, 131, 42, 180, 0, 74, 3, 46, 172]
abbrev dktX4_comes_6 : List UInt8 := dkwX4_comes_6 ++ []
def dkwX4_comes_5 : List UInt8 := [4, 100, 21, 4, 42, 180, 0, 74, 28, 4, 100, 46, 42, 180, 0, 74, 28, 46, 184, 1, 82, 79]
abbrev dktX4_comes_5 : List UInt8 := dkwX4_comes_5 ++ dktX4_comes_6
def dkwX4_comes_4 : List UInt8 := [42, 180, 0, 65, 29, 46, 182, 1, 79, 79, 132, 2, 1, 167, 0, 33, 132, 2, 255, 42, 180, 0, 74, 28]
abbrev dktX4_comes_4 : List UInt8 := dkwX4_comes_4 ++ dktX4_comes_5
def dkwX4_comes_3 : List UInt8 := [167, 0, 4, 3, 79, 167, 0, 65, 21, 4, 184, 0, 206, 153, 0, 27, 42, 180, 0, 74, 28, 42, 21, 4]
abbrev dktX4_comes_3 : List UInt8 := dkwX4_comes_3 ++ dktX4_comes_4
def dkwX4_comes_2 : List UInt8 := [160, 0, 30, 42, 180, 0, 74, 28, 4, 100, 42, 180, 0, 74, 28, 4, 100, 46, 154, 0, 7, 4]
abbrev dktX4_comes_2 : List UInt8 := dkwX4_comes_2 ++ dktX4_comes_3
def dkwX4_comes_1 : List UInt8 := [42, 180, 0, 250, 104, 27, 96, 46, 162, 0, 113, 42, 180, 0, 62, 29, 46, 54, 4, 21, 4, 16, 126]
abbrev dktX4_comes_1 : List UInt8 := dkwX4_comes_1 ++ dktX4_comes_2
def dkwX4_comes_0 : List UInt8 := [3, 61, 42, 180, 0, 42, 16, 8, 42, 180, 0, 250, 104, 27, 96, 46, 62, 29, 42, 180, 0, 45, 16, 8]
abbrev dktX4_comes_0 : List UInt8 := dkwX4_comes_0 ++ dktX4_comes_1
theorem dksX4_comes_0 : cX4_comes.data.toList.drop 0 = dktX4_comes_0 := by decide +kernel
theorem dksX4_comes_1 : cX4_comes.data.toList.drop 24 = dktX4_comes_1 := dk_seg dksX4_comes_0 24 rfl rfl
theorem dksX4_comes_2 : cX4_comes.data.toList.drop 47 = dktX4_comes_2 := dk_seg dksX4_comes_1 23 rfl rfl
theorem dksX4_comes_3 : cX4_comes.data.toList.drop 69 = dktX4_comes_3 := dk_seg dksX4_comes_2 22 rfl rfl
theorem dksX4_comes_4 : cX4_comes.data.toList.drop 93 = dktX4_comes_4 := dk_seg dksX4_comes_3 24 rfl rfl
theorem dksX4_comes_5 : cX4_comes.data.toList.drop 117 = dktX4_comes_5 := dk_seg dksX4_comes_4 24 rfl rfl
theorem dksX4_comes_6 : cX4_comes.data.toList.drop 139 = dktX4_comes_6 := dk_seg dksX4_comes_5 22 rfl rfl
theorem dX4_comes_0 : decode cX4_comes 0 = .ok (.iconst 0, 1) := dk_3 (dk_at dksX4_comes_0 0 rfl rfl)
theorem dX4_comes_1 : decode cX4_comes 1 = .ok (.istore_n 2, 1) := dk_61 (dk_at dksX4_comes_0 1 rfl rfl)
theorem dX4_comes_2 : decode cX4_comes 2 = .ok (.aload_n 0, 1) := dk_42 (dk_at dksX4_comes_0 2 rfl rfl)
theorem dX4_comes_3 : decode cX4_comes 3 = .ok (.getfield 42, 3) := dk_180 0 42 (dk_at dksX4_comes_0 3 rfl rfl)
theorem dX4_comes_6 : decode cX4_comes 6 = .ok (.bipush 8, 2) := dk_16 8 (dk_at dksX4_comes_0 6 rfl rfl)
theorem dX4_comes_8 : decode cX4_comes 8 = .ok (.aload_n 0, 1) := dk_42 (dk_at dksX4_comes_0 8 rfl rfl)
theorem dX4_comes_9 : decode cX4_comes 9 = .ok (.getfield 250, 3) := dk_180 0 250 (dk_at dksX4_comes_0 9 rfl rfl)
theorem dX4_comes_12 : decode cX4_comes 12 = .ok (.imul, 1) := dk_104 (dk_at dksX4_comes_0 12 rfl rfl)
theorem dX4_comes_13 : decode cX4_comes 13 = .ok (.iload_n 1, 1) := dk_27 (dk_at dksX4_comes_0 13 rfl rfl)
theorem dX4_comes_14 : decode cX4_comes 14 = .ok (.iadd, 1) := dk_96 (dk_at dksX4_comes_0 14 rfl rfl)
theorem dX4_comes_15 : decode cX4_comes 15 = .ok (.iaload, 1) := dk_46 (dk_at dksX4_comes_0 15 rfl rfl)
theorem dX4_comes_16 : decode cX4_comes 16 = .ok (.istore_n 3, 1) := dk_62 (dk_at dksX4_comes_0 16 rfl rfl)
theorem dX4_comes_17 : decode cX4_comes 17 = .ok (.iload_n 3, 1) := dk_29 (dk_at dksX4_comes_0 17 rfl rfl)
theorem dX4_comes_18 : decode cX4_comes 18 = .ok (.aload_n 0, 1) := dk_42 (dk_at dksX4_comes_0 18 rfl rfl)
theorem dX4_comes_19 : decode cX4_comes 19 = .ok (.getfield 45, 3) := dk_180 0 45 (dk_at dksX4_comes_0 19 rfl rfl)
theorem dX4_comes_22 : decode cX4_comes 22 = .ok (.bipush 8, 2) := dk_16 8 (dk_at dksX4_comes_0 22 rfl rfl)
theorem dX4_comes_24 : decode cX4_comes 24 = .ok (.aload_n 0, 1) := dk_42 (dk_at dksX4_comes_1 0 rfl rfl)
theorem dX4_comes_25 : decode cX4_comes 25 = .ok (.getfield 250, 3) := dk_180 0 250 (dk_at dksX4_comes_1 1 rfl rfl)
theorem dX4_comes_28 : decode cX4_comes 28 = .ok (.imul, 1) := dk_104 (dk_at dksX4_comes_1 4 rfl rfl)
theorem dX4_comes_29 : decode cX4_comes 29 = .ok (.iload_n 1, 1) := dk_27 (dk_at dksX4_comes_1 5 rfl rfl)
theorem dX4_comes_30 : decode cX4_comes 30 = .ok (.iadd, 1) := dk_96 (dk_at dksX4_comes_1 6 rfl rfl)
theorem dX4_comes_31 : decode cX4_comes 31 = .ok (.iaload, 1) := dk_46 (dk_at dksX4_comes_1 7 rfl rfl)
theorem dX4_comes_32 : decode cX4_comes 32 = .ok (.if_icmp .ge 113, 3) := dk_162 0 113 (dk_at dksX4_comes_1 8 rfl rfl)
theorem dX4_comes_35 : decode cX4_comes 35 = .ok (.aload_n 0, 1) := dk_42 (dk_at dksX4_comes_1 11 rfl rfl)
theorem dX4_comes_36 : decode cX4_comes 36 = .ok (.getfield 62, 3) := dk_180 0 62 (dk_at dksX4_comes_1 12 rfl rfl)
theorem dX4_comes_39 : decode cX4_comes 39 = .ok (.iload_n 3, 1) := dk_29 (dk_at dksX4_comes_1 15 rfl rfl)
theorem dX4_comes_40 : decode cX4_comes 40 = .ok (.iaload, 1) := dk_46 (dk_at dksX4_comes_1 16 rfl rfl)
theorem dX4_comes_41 : decode cX4_comes 41 = .ok (.istore 4, 2) := dk_54 4 (dk_at dksX4_comes_1 17 rfl rfl)
theorem dX4_comes_43 : decode cX4_comes 43 = .ok (.iload 4, 2) := dk_21 4 (dk_at dksX4_comes_1 19 rfl rfl)
theorem dX4_comes_45 : decode cX4_comes 45 = .ok (.bipush 126, 2) := dk_16 126 (dk_at dksX4_comes_1 21 rfl rfl)
theorem dX4_comes_47 : decode cX4_comes 47 = .ok (.if_icmp .ne 30, 3) := dk_160 0 30 (dk_at dksX4_comes_2 0 rfl rfl)
theorem dX4_comes_50 : decode cX4_comes 50 = .ok (.aload_n 0, 1) := dk_42 (dk_at dksX4_comes_2 3 rfl rfl)
theorem dX4_comes_51 : decode cX4_comes 51 = .ok (.getfield 74, 3) := dk_180 0 74 (dk_at dksX4_comes_2 4 rfl rfl)
theorem dX4_comes_54 : decode cX4_comes 54 = .ok (.iload_n 2, 1) := dk_28 (dk_at dksX4_comes_2 7 rfl rfl)
theorem dX4_comes_55 : decode cX4_comes 55 = .ok (.iconst 1, 1) := dk_4 (dk_at dksX4_comes_2 8 rfl rfl)
theorem dX4_comes_56 : decode cX4_comes 56 = .ok (.isub, 1) := dk_100 (dk_at dksX4_comes_2 9 rfl rfl)
theorem dX4_comes_57 : decode cX4_comes 57 = .ok (.aload_n 0, 1) := dk_42 (dk_at dksX4_comes_2 10 rfl rfl)
theorem dX4_comes_58 : decode cX4_comes 58 = .ok (.getfield 74, 3) := dk_180 0 74 (dk_at dksX4_comes_2 11 rfl rfl)
theorem dX4_comes_61 : decode cX4_comes 61 = .ok (.iload_n 2, 1) := dk_28 (dk_at dksX4_comes_2 14 rfl rfl)
theorem dX4_comes_62 : decode cX4_comes 62 = .ok (.iconst 1, 1) := dk_4 (dk_at dksX4_comes_2 15 rfl rfl)
theorem dX4_comes_63 : decode cX4_comes 63 = .ok (.isub, 1) := dk_100 (dk_at dksX4_comes_2 16 rfl rfl)
theorem dX4_comes_64 : decode cX4_comes 64 = .ok (.iaload, 1) := dk_46 (dk_at dksX4_comes_2 17 rfl rfl)
theorem dX4_comes_65 : decode cX4_comes 65 = .ok (.ifCond .ne 7, 3) := dk_154 0 7 (dk_at dksX4_comes_2 18 rfl rfl)
theorem dX4_comes_68 : decode cX4_comes 68 = .ok (.iconst 1, 1) := dk_4 (dk_at dksX4_comes_2 21 rfl rfl)
theorem dX4_comes_69 : decode cX4_comes 69 = .ok (.goto 4, 3) := dk_167 0 4 (dk_at dksX4_comes_3 0 rfl rfl)
theorem dX4_comes_72 : decode cX4_comes 72 = .ok (.iconst 0, 1) := dk_3 (dk_at dksX4_comes_3 3 rfl rfl)
theorem dX4_comes_73 : decode cX4_comes 73 = .ok (.iastore, 1) := dk_79 (dk_at dksX4_comes_3 4 rfl rfl)
theorem dX4_comes_74 : decode cX4_comes 74 = .ok (.goto 65, 3) := dk_167 0 65 (dk_at dksX4_comes_3 5 rfl rfl)
theorem dX4_comes_77 : decode cX4_comes 77 = .ok (.iload 4, 2) := dk_21 4 (dk_at dksX4_comes_3 8 rfl rfl)
theorem dX4_comes_79 : decode cX4_comes 79 = .ok (.invokestatic 206, 3) := dk_184 0 206 (dk_at dksX4_comes_3 10 rfl rfl)
theorem dX4_comes_82 : decode cX4_comes 82 = .ok (.ifCond .eq 27, 3) := dk_153 0 27 (dk_at dksX4_comes_3 13 rfl rfl)
theorem dX4_comes_85 : decode cX4_comes 85 = .ok (.aload_n 0, 1) := dk_42 (dk_at dksX4_comes_3 16 rfl rfl)
theorem dX4_comes_86 : decode cX4_comes 86 = .ok (.getfield 74, 3) := dk_180 0 74 (dk_at dksX4_comes_3 17 rfl rfl)
theorem dX4_comes_89 : decode cX4_comes 89 = .ok (.iload_n 2, 1) := dk_28 (dk_at dksX4_comes_3 20 rfl rfl)
theorem dX4_comes_90 : decode cX4_comes 90 = .ok (.aload_n 0, 1) := dk_42 (dk_at dksX4_comes_3 21 rfl rfl)
theorem dX4_comes_91 : decode cX4_comes 91 = .ok (.iload 4, 2) := dk_21 4 (dk_at dksX4_comes_3 22 rfl rfl)
theorem dX4_comes_93 : decode cX4_comes 93 = .ok (.aload_n 0, 1) := dk_42 (dk_at dksX4_comes_4 0 rfl rfl)
theorem dX4_comes_94 : decode cX4_comes 94 = .ok (.getfield 65, 3) := dk_180 0 65 (dk_at dksX4_comes_4 1 rfl rfl)
theorem dX4_comes_97 : decode cX4_comes 97 = .ok (.iload_n 3, 1) := dk_29 (dk_at dksX4_comes_4 4 rfl rfl)
theorem dX4_comes_98 : decode cX4_comes 98 = .ok (.iaload, 1) := dk_46 (dk_at dksX4_comes_4 5 rfl rfl)
theorem dX4_comes_99 : decode cX4_comes 99 = .ok (.invokevirtual 335, 3) := dk_182 1 79 (dk_at dksX4_comes_4 6 rfl rfl)
theorem dX4_comes_102 : decode cX4_comes 102 = .ok (.iastore, 1) := dk_79 (dk_at dksX4_comes_4 9 rfl rfl)
theorem dX4_comes_103 : decode cX4_comes 103 = .ok (.iinc 2 1, 3) := dk_132 2 1 (dk_at dksX4_comes_4 10 rfl rfl)
theorem dX4_comes_106 : decode cX4_comes 106 = .ok (.goto 33, 3) := dk_167 0 33 (dk_at dksX4_comes_4 13 rfl rfl)
theorem dX4_comes_109 : decode cX4_comes 109 = .ok (.iinc 2 (-1), 3) := dk_132 2 255 (dk_at dksX4_comes_4 16 rfl rfl)
theorem dX4_comes_112 : decode cX4_comes 112 = .ok (.aload_n 0, 1) := dk_42 (dk_at dksX4_comes_4 19 rfl rfl)
theorem dX4_comes_113 : decode cX4_comes 113 = .ok (.getfield 74, 3) := dk_180 0 74 (dk_at dksX4_comes_4 20 rfl rfl)
theorem dX4_comes_116 : decode cX4_comes 116 = .ok (.iload_n 2, 1) := dk_28 (dk_at dksX4_comes_4 23 rfl rfl)
theorem dX4_comes_117 : decode cX4_comes 117 = .ok (.iconst 1, 1) := dk_4 (dk_at dksX4_comes_5 0 rfl rfl)
theorem dX4_comes_118 : decode cX4_comes 118 = .ok (.isub, 1) := dk_100 (dk_at dksX4_comes_5 1 rfl rfl)
theorem dX4_comes_119 : decode cX4_comes 119 = .ok (.iload 4, 2) := dk_21 4 (dk_at dksX4_comes_5 2 rfl rfl)
theorem dX4_comes_121 : decode cX4_comes 121 = .ok (.aload_n 0, 1) := dk_42 (dk_at dksX4_comes_5 4 rfl rfl)
theorem dX4_comes_122 : decode cX4_comes 122 = .ok (.getfield 74, 3) := dk_180 0 74 (dk_at dksX4_comes_5 5 rfl rfl)
theorem dX4_comes_125 : decode cX4_comes 125 = .ok (.iload_n 2, 1) := dk_28 (dk_at dksX4_comes_5 8 rfl rfl)
theorem dX4_comes_126 : decode cX4_comes 126 = .ok (.iconst 1, 1) := dk_4 (dk_at dksX4_comes_5 9 rfl rfl)
theorem dX4_comes_127 : decode cX4_comes 127 = .ok (.isub, 1) := dk_100 (dk_at dksX4_comes_5 10 rfl rfl)
theorem dX4_comes_128 : decode cX4_comes 128 = .ok (.iaload, 1) := dk_46 (dk_at dksX4_comes_5 11 rfl rfl)
theorem dX4_comes_129 : decode cX4_comes 129 = .ok (.aload_n 0, 1) := dk_42 (dk_at dksX4_comes_5 12 rfl rfl)
theorem dX4_comes_130 : decode cX4_comes 130 = .ok (.getfield 74, 3) := dk_180 0 74 (dk_at dksX4_comes_5 13 rfl rfl)
theorem dX4_comes_133 : decode cX4_comes 133 = .ok (.iload_n 2, 1) := dk_28 (dk_at dksX4_comes_5 16 rfl rfl)
theorem dX4_comes_134 : decode cX4_comes 134 = .ok (.iaload, 1) := dk_46 (dk_at dksX4_comes_5 17 rfl rfl)
theorem dX4_comes_135 : decode cX4_comes 135 = .ok (.invokestatic 338, 3) := dk_184 1 82 (dk_at dksX4_comes_5 18 rfl rfl)
theorem dX4_comes_138 : decode cX4_comes 138 = .ok (.iastore, 1) := dk_79 (dk_at dksX4_comes_5 21 rfl rfl)
theorem dX4_comes_139 : decode cX4_comes 139 = .ok (.iinc 3 1, 3) := dk_132 3 1 (dk_at dksX4_comes_6 0 rfl rfl)
theorem dX4_comes_142 : decode cX4_comes 142 = .ok (.goto (-125), 3) := dk_167 255 131 (dk_at dksX4_comes_6 3 rfl rfl)
theorem dX4_comes_145 : decode cX4_comes 145 = .ok (.aload_n 0, 1) := dk_42 (dk_at dksX4_comes_6 6 rfl rfl)
theorem dX4_comes_146 : decode cX4_comes 146 = .ok (.getfield 74, 3) := dk_180 0 74 (dk_at dksX4_comes_6 7 rfl rfl)
theorem dX4_comes_149 : decode cX4_comes 149 = .ok (.iconst 0, 1) := dk_3 (dk_at dksX4_comes_6 10 rfl rfl)
theorem dX4_comes_150 : decode cX4_comes 150 = .ok (.iaload, 1) := dk_46 (dk_at dksX4_comes_6 11 rfl rfl)
theorem dX4_comes_151 : decode cX4_comes 151 = .ok (.ireturn, 1) := dk_172 (dk_at dksX4_comes_6 12 rfl rfl)
abbrev cX4_asked : ByteArray := prog_27_method_32_code
def yX4_asked : MethodName := ⟨RX4, "asked", "(II)I"⟩
def dkwX4_asked_5 : List UInt8 := [180, 1, 73, 172, 42, 180, 1, 76, 172, 28, 172]
abbrev dktX4_asked_5 : List UInt8 := dkwX4_asked_5 ++ []
def dkwX4_asked_4 : List UInt8 := [180, 1, 64, 4, 96, 122, 4, 126, 172, 42, 180, 1, 70, 172, 42, 180, 0, 77, 17, 0, 219, 46, 172, 42]
abbrev dktX4_asked_4 : List UInt8 := dkwX4_asked_4 ++ dktX4_asked_5
def dkwX4_asked_3 : List UInt8 := [42, 180, 1, 67, 42, 180, 1, 64, 4, 100, 122, 4, 126, 167, 0, 4, 3, 172, 42, 180, 1, 67, 42]
abbrev dktX4_asked_3 : List UInt8 := dkwX4_asked_3 ++ dktX4_asked_4
def dkwX4_asked_2 : List UInt8 := [42, 180, 1, 64, 172, 42, 180, 1, 67, 42, 180, 1, 64, 122, 4, 126, 172, 42, 180, 1, 64, 158, 0, 19]
abbrev dktX4_asked_2 : List UInt8 := dkwX4_asked_2 ++ dktX4_asked_3
def dkwX4_asked_1 : List UInt8 := [170, 0, 0, 0, 0, 0, 183, 0, 0, 0, 100, 0, 0, 0, 121, 0, 0, 0, 178, 0, 0, 0, 183, 0, 0, 0, 183, 0, 0, 0, 183, 0, 0, 0, 108, 0, 0, 0, 183, 0, 0, 0, 164, 0, 0, 0, 183, 0, 0, 0, 120, 0, 0, 0, 103, 0, 0, 0, 183, 0, 0, 0, 183, 0, 0, 0, 183, 0, 0, 0, 183, 0, 0, 0, 145, 0, 0, 0, 183, 0, 0, 0, 173, 0, 0, 0, 183, 0, 0, 0, 183, 0, 0, 0, 183, 0, 0, 0, 183, 0, 0, 0, 159]
abbrev dktX4_asked_1 : List UInt8 := dkwX4_asked_1 ++ dktX4_asked_2
def dkwX4_asked_0 : List UInt8 := [27]
abbrev dktX4_asked_0 : List UInt8 := dkwX4_asked_0 ++ dktX4_asked_1
theorem dksX4_asked_0 : cX4_asked.data.toList.drop 0 = dktX4_asked_0 := by decide +kernel
theorem dksX4_asked_1 : cX4_asked.data.toList.drop 1 = dktX4_asked_1 := dk_seg dksX4_asked_0 1 rfl rfl
theorem dksX4_asked_2 : cX4_asked.data.toList.drop 104 = dktX4_asked_2 := dk_seg dksX4_asked_1 103 rfl rfl
theorem dksX4_asked_3 : cX4_asked.data.toList.drop 128 = dktX4_asked_3 := dk_seg dksX4_asked_2 24 rfl rfl
theorem dksX4_asked_4 : cX4_asked.data.toList.drop 151 = dktX4_asked_4 := dk_seg dksX4_asked_3 23 rfl rfl
theorem dksX4_asked_5 : cX4_asked.data.toList.drop 175 = dktX4_asked_5 := dk_seg dksX4_asked_4 24 rfl rfl
theorem dX4_asked_0 : decode cX4_asked 0 = .ok (.iload_n 1, 1) := dk_27 (dk_at dksX4_asked_0 0 rfl rfl)
theorem dX4_asked_1 : decode cX4_asked 1 = .ok (.tableswitch 183 100 121 #[178, 183, 183, 183, 108, 183, 164, 183, 120, 103, 183, 183, 183, 183, 145, 183, 173, 183, 183, 183, 183, 159], 103) := by decide +kernel
theorem dX4_asked_104 : decode cX4_asked 104 = .ok (.aload_n 0, 1) := dk_42 (dk_at dksX4_asked_2 0 rfl rfl)
theorem dX4_asked_105 : decode cX4_asked 105 = .ok (.getfield 320, 3) := dk_180 1 64 (dk_at dksX4_asked_2 1 rfl rfl)
theorem dX4_asked_108 : decode cX4_asked 108 = .ok (.ireturn, 1) := dk_172 (dk_at dksX4_asked_2 4 rfl rfl)
theorem dX4_asked_109 : decode cX4_asked 109 = .ok (.aload_n 0, 1) := dk_42 (dk_at dksX4_asked_2 5 rfl rfl)
theorem dX4_asked_110 : decode cX4_asked 110 = .ok (.getfield 323, 3) := dk_180 1 67 (dk_at dksX4_asked_2 6 rfl rfl)
theorem dX4_asked_113 : decode cX4_asked 113 = .ok (.aload_n 0, 1) := dk_42 (dk_at dksX4_asked_2 9 rfl rfl)
theorem dX4_asked_114 : decode cX4_asked 114 = .ok (.getfield 320, 3) := dk_180 1 64 (dk_at dksX4_asked_2 10 rfl rfl)
theorem dX4_asked_117 : decode cX4_asked 117 = .ok (.ishr, 1) := dk_122 (dk_at dksX4_asked_2 13 rfl rfl)
theorem dX4_asked_118 : decode cX4_asked 118 = .ok (.iconst 1, 1) := dk_4 (dk_at dksX4_asked_2 14 rfl rfl)
theorem dX4_asked_119 : decode cX4_asked 119 = .ok (.iand, 1) := dk_126 (dk_at dksX4_asked_2 15 rfl rfl)
theorem dX4_asked_120 : decode cX4_asked 120 = .ok (.ireturn, 1) := dk_172 (dk_at dksX4_asked_2 16 rfl rfl)
theorem dX4_asked_121 : decode cX4_asked 121 = .ok (.aload_n 0, 1) := dk_42 (dk_at dksX4_asked_2 17 rfl rfl)
theorem dX4_asked_122 : decode cX4_asked 122 = .ok (.getfield 320, 3) := dk_180 1 64 (dk_at dksX4_asked_2 18 rfl rfl)
theorem dX4_asked_125 : decode cX4_asked 125 = .ok (.ifCond .le 19, 3) := dk_158 0 19 (dk_at dksX4_asked_2 21 rfl rfl)
theorem dX4_asked_128 : decode cX4_asked 128 = .ok (.aload_n 0, 1) := dk_42 (dk_at dksX4_asked_3 0 rfl rfl)
theorem dX4_asked_129 : decode cX4_asked 129 = .ok (.getfield 323, 3) := dk_180 1 67 (dk_at dksX4_asked_3 1 rfl rfl)
theorem dX4_asked_132 : decode cX4_asked 132 = .ok (.aload_n 0, 1) := dk_42 (dk_at dksX4_asked_3 4 rfl rfl)
theorem dX4_asked_133 : decode cX4_asked 133 = .ok (.getfield 320, 3) := dk_180 1 64 (dk_at dksX4_asked_3 5 rfl rfl)
theorem dX4_asked_136 : decode cX4_asked 136 = .ok (.iconst 1, 1) := dk_4 (dk_at dksX4_asked_3 8 rfl rfl)
theorem dX4_asked_137 : decode cX4_asked 137 = .ok (.isub, 1) := dk_100 (dk_at dksX4_asked_3 9 rfl rfl)
theorem dX4_asked_138 : decode cX4_asked 138 = .ok (.ishr, 1) := dk_122 (dk_at dksX4_asked_3 10 rfl rfl)
theorem dX4_asked_139 : decode cX4_asked 139 = .ok (.iconst 1, 1) := dk_4 (dk_at dksX4_asked_3 11 rfl rfl)
theorem dX4_asked_140 : decode cX4_asked 140 = .ok (.iand, 1) := dk_126 (dk_at dksX4_asked_3 12 rfl rfl)
theorem dX4_asked_141 : decode cX4_asked 141 = .ok (.goto 4, 3) := dk_167 0 4 (dk_at dksX4_asked_3 13 rfl rfl)
theorem dX4_asked_144 : decode cX4_asked 144 = .ok (.iconst 0, 1) := dk_3 (dk_at dksX4_asked_3 16 rfl rfl)
theorem dX4_asked_145 : decode cX4_asked 145 = .ok (.ireturn, 1) := dk_172 (dk_at dksX4_asked_3 17 rfl rfl)
theorem dX4_asked_146 : decode cX4_asked 146 = .ok (.aload_n 0, 1) := dk_42 (dk_at dksX4_asked_3 18 rfl rfl)
theorem dX4_asked_147 : decode cX4_asked 147 = .ok (.getfield 323, 3) := dk_180 1 67 (dk_at dksX4_asked_3 19 rfl rfl)
theorem dX4_asked_150 : decode cX4_asked 150 = .ok (.aload_n 0, 1) := dk_42 (dk_at dksX4_asked_3 22 rfl rfl)
theorem dX4_asked_151 : decode cX4_asked 151 = .ok (.getfield 320, 3) := dk_180 1 64 (dk_at dksX4_asked_4 0 rfl rfl)
theorem dX4_asked_154 : decode cX4_asked 154 = .ok (.iconst 1, 1) := dk_4 (dk_at dksX4_asked_4 3 rfl rfl)
theorem dX4_asked_155 : decode cX4_asked 155 = .ok (.iadd, 1) := dk_96 (dk_at dksX4_asked_4 4 rfl rfl)
theorem dX4_asked_156 : decode cX4_asked 156 = .ok (.ishr, 1) := dk_122 (dk_at dksX4_asked_4 5 rfl rfl)
theorem dX4_asked_157 : decode cX4_asked 157 = .ok (.iconst 1, 1) := dk_4 (dk_at dksX4_asked_4 6 rfl rfl)
theorem dX4_asked_158 : decode cX4_asked 158 = .ok (.iand, 1) := dk_126 (dk_at dksX4_asked_4 7 rfl rfl)
theorem dX4_asked_159 : decode cX4_asked 159 = .ok (.ireturn, 1) := dk_172 (dk_at dksX4_asked_4 8 rfl rfl)
theorem dX4_asked_160 : decode cX4_asked 160 = .ok (.aload_n 0, 1) := dk_42 (dk_at dksX4_asked_4 9 rfl rfl)
theorem dX4_asked_161 : decode cX4_asked 161 = .ok (.getfield 326, 3) := dk_180 1 70 (dk_at dksX4_asked_4 10 rfl rfl)
theorem dX4_asked_164 : decode cX4_asked 164 = .ok (.ireturn, 1) := dk_172 (dk_at dksX4_asked_4 13 rfl rfl)
theorem dX4_asked_165 : decode cX4_asked 165 = .ok (.aload_n 0, 1) := dk_42 (dk_at dksX4_asked_4 14 rfl rfl)
theorem dX4_asked_166 : decode cX4_asked 166 = .ok (.getfield 77, 3) := dk_180 0 77 (dk_at dksX4_asked_4 15 rfl rfl)
theorem dX4_asked_169 : decode cX4_asked 169 = .ok (.sipush 219, 3) := dk_17 0 219 (dk_at dksX4_asked_4 18 rfl rfl)
theorem dX4_asked_172 : decode cX4_asked 172 = .ok (.iaload, 1) := dk_46 (dk_at dksX4_asked_4 21 rfl rfl)
theorem dX4_asked_173 : decode cX4_asked 173 = .ok (.ireturn, 1) := dk_172 (dk_at dksX4_asked_4 22 rfl rfl)
theorem dX4_asked_174 : decode cX4_asked 174 = .ok (.aload_n 0, 1) := dk_42 (dk_at dksX4_asked_4 23 rfl rfl)
theorem dX4_asked_175 : decode cX4_asked 175 = .ok (.getfield 329, 3) := dk_180 1 73 (dk_at dksX4_asked_5 0 rfl rfl)
theorem dX4_asked_178 : decode cX4_asked 178 = .ok (.ireturn, 1) := dk_172 (dk_at dksX4_asked_5 3 rfl rfl)
theorem dX4_asked_179 : decode cX4_asked 179 = .ok (.aload_n 0, 1) := dk_42 (dk_at dksX4_asked_5 4 rfl rfl)
theorem dX4_asked_180 : decode cX4_asked 180 = .ok (.getfield 332, 3) := dk_180 1 76 (dk_at dksX4_asked_5 5 rfl rfl)
theorem dX4_asked_183 : decode cX4_asked 183 = .ok (.ireturn, 1) := dk_172 (dk_at dksX4_asked_5 8 rfl rfl)
theorem dX4_asked_184 : decode cX4_asked 184 = .ok (.iload_n 2, 1) := dk_28 (dk_at dksX4_asked_5 9 rfl rfl)
theorem dX4_asked_185 : decode cX4_asked 185 = .ok (.ireturn, 1) := dk_172 (dk_at dksX4_asked_5 10 rfl rfl)
abbrev cX4_two : ByteArray := prog_27_method_31_code
def yX4_two : MethodName := ⟨RX4, "two", "(III)I"⟩
def dkwX4_two_6 : List UInt8 := [167, 0, 4, 3, 172]
abbrev dktX4_two_6 : List UInt8 := dkwX4_two_6 ++ []
def dkwX4_two_5 : List UInt8 := [153, 0, 11, 28, 153, 0, 7, 4, 167, 0, 4, 3, 172, 27, 154, 0, 7, 28, 153, 0, 7, 4]
abbrev dktX4_two_5 : List UInt8 := dkwX4_two_5 ++ dktX4_two_6
def dkwX4_two_4 : List UInt8 := [28, 164, 0, 7, 4, 167, 0, 4, 3, 172, 27, 28, 160, 0, 7, 4, 167, 0, 4, 3, 172, 27]
abbrev dktX4_two_4 : List UInt8 := dkwX4_two_4 ++ dktX4_two_5
def dkwX4_two_3 : List UInt8 := [28, 154, 0, 7, 3, 167, 0, 6, 27, 28, 112, 172, 27, 28, 162, 0, 7, 4, 167, 0, 4, 3, 172, 27]
abbrev dktX4_two_3 : List UInt8 := dkwX4_two_3 ++ dktX4_two_4
def dkwX4_two_2 : List UInt8 := [27, 28, 96, 172, 27, 28, 100, 172, 27, 28, 104, 172, 28, 154, 0, 7, 3, 167, 0, 6, 27, 28, 108, 172]
abbrev dktX4_two_2 : List UInt8 := dkwX4_two_2 ++ dktX4_two_3
def dkwX4_two_1 : List UInt8 := [170, 0, 0, 0, 0, 0, 202, 0, 0, 0, 37, 0, 0, 0, 62, 0, 0, 0, 143, 0, 0, 0, 188, 0, 0, 0, 202, 0, 0, 0, 202, 0, 0, 0, 202, 0, 0, 0, 127, 0, 0, 0, 119, 0, 0, 0, 202, 0, 0, 0, 123, 0, 0, 0, 202, 0, 0, 0, 131, 0, 0, 0, 202, 0, 0, 0, 202, 0, 0, 0, 202, 0, 0, 0, 202, 0, 0, 0, 202, 0, 0, 0, 202, 0, 0, 0, 202, 0, 0, 0, 202, 0, 0, 0, 202, 0, 0, 0, 202, 0, 0, 0, 202, 0, 0, 0, 202, 0, 0, 0, 155, 0, 0, 0, 177, 0, 0, 0, 166]
abbrev dktX4_two_1 : List UInt8 := dkwX4_two_1 ++ dktX4_two_2
def dkwX4_two_0 : List UInt8 := [26]
abbrev dktX4_two_0 : List UInt8 := dkwX4_two_0 ++ dktX4_two_1
theorem dksX4_two_0 : cX4_two.data.toList.drop 0 = dktX4_two_0 := by decide +kernel
theorem dksX4_two_1 : cX4_two.data.toList.drop 1 = dktX4_two_1 := dk_seg dksX4_two_0 1 rfl rfl
theorem dksX4_two_2 : cX4_two.data.toList.drop 120 = dktX4_two_2 := dk_seg dksX4_two_1 119 rfl rfl
theorem dksX4_two_3 : cX4_two.data.toList.drop 144 = dktX4_two_3 := dk_seg dksX4_two_2 24 rfl rfl
theorem dksX4_two_4 : cX4_two.data.toList.drop 168 = dktX4_two_4 := dk_seg dksX4_two_3 24 rfl rfl
theorem dksX4_two_5 : cX4_two.data.toList.drop 190 = dktX4_two_5 := dk_seg dksX4_two_4 22 rfl rfl
theorem dksX4_two_6 : cX4_two.data.toList.drop 212 = dktX4_two_6 := dk_seg dksX4_two_5 22 rfl rfl
theorem dX4_two_0 : decode cX4_two 0 = .ok (.iload_n 0, 1) := dk_26 (dk_at dksX4_two_0 0 rfl rfl)
theorem dX4_two_1 : decode cX4_two 1 = .ok (.tableswitch 202 37 62 #[143, 188, 202, 202, 202, 127, 119, 202, 123, 202, 131, 202, 202, 202, 202, 202, 202, 202, 202, 202, 202, 202, 202, 155, 177, 166], 119) := by decide +kernel
theorem dX4_two_120 : decode cX4_two 120 = .ok (.iload_n 1, 1) := dk_27 (dk_at dksX4_two_2 0 rfl rfl)
theorem dX4_two_121 : decode cX4_two 121 = .ok (.iload_n 2, 1) := dk_28 (dk_at dksX4_two_2 1 rfl rfl)
theorem dX4_two_122 : decode cX4_two 122 = .ok (.iadd, 1) := dk_96 (dk_at dksX4_two_2 2 rfl rfl)
theorem dX4_two_123 : decode cX4_two 123 = .ok (.ireturn, 1) := dk_172 (dk_at dksX4_two_2 3 rfl rfl)
theorem dX4_two_124 : decode cX4_two 124 = .ok (.iload_n 1, 1) := dk_27 (dk_at dksX4_two_2 4 rfl rfl)
theorem dX4_two_125 : decode cX4_two 125 = .ok (.iload_n 2, 1) := dk_28 (dk_at dksX4_two_2 5 rfl rfl)
theorem dX4_two_126 : decode cX4_two 126 = .ok (.isub, 1) := dk_100 (dk_at dksX4_two_2 6 rfl rfl)
theorem dX4_two_127 : decode cX4_two 127 = .ok (.ireturn, 1) := dk_172 (dk_at dksX4_two_2 7 rfl rfl)
theorem dX4_two_128 : decode cX4_two 128 = .ok (.iload_n 1, 1) := dk_27 (dk_at dksX4_two_2 8 rfl rfl)
theorem dX4_two_129 : decode cX4_two 129 = .ok (.iload_n 2, 1) := dk_28 (dk_at dksX4_two_2 9 rfl rfl)
theorem dX4_two_130 : decode cX4_two 130 = .ok (.imul, 1) := dk_104 (dk_at dksX4_two_2 10 rfl rfl)
theorem dX4_two_131 : decode cX4_two 131 = .ok (.ireturn, 1) := dk_172 (dk_at dksX4_two_2 11 rfl rfl)
theorem dX4_two_132 : decode cX4_two 132 = .ok (.iload_n 2, 1) := dk_28 (dk_at dksX4_two_2 12 rfl rfl)
theorem dX4_two_133 : decode cX4_two 133 = .ok (.ifCond .ne 7, 3) := dk_154 0 7 (dk_at dksX4_two_2 13 rfl rfl)
theorem dX4_two_136 : decode cX4_two 136 = .ok (.iconst 0, 1) := dk_3 (dk_at dksX4_two_2 16 rfl rfl)
theorem dX4_two_137 : decode cX4_two 137 = .ok (.goto 6, 3) := dk_167 0 6 (dk_at dksX4_two_2 17 rfl rfl)
theorem dX4_two_140 : decode cX4_two 140 = .ok (.iload_n 1, 1) := dk_27 (dk_at dksX4_two_2 20 rfl rfl)
theorem dX4_two_141 : decode cX4_two 141 = .ok (.iload_n 2, 1) := dk_28 (dk_at dksX4_two_2 21 rfl rfl)
theorem dX4_two_142 : decode cX4_two 142 = .ok (.idiv, 1) := dk_108 (dk_at dksX4_two_2 22 rfl rfl)
theorem dX4_two_143 : decode cX4_two 143 = .ok (.ireturn, 1) := dk_172 (dk_at dksX4_two_2 23 rfl rfl)
theorem dX4_two_144 : decode cX4_two 144 = .ok (.iload_n 2, 1) := dk_28 (dk_at dksX4_two_3 0 rfl rfl)
theorem dX4_two_145 : decode cX4_two 145 = .ok (.ifCond .ne 7, 3) := dk_154 0 7 (dk_at dksX4_two_3 1 rfl rfl)
theorem dX4_two_148 : decode cX4_two 148 = .ok (.iconst 0, 1) := dk_3 (dk_at dksX4_two_3 4 rfl rfl)
theorem dX4_two_149 : decode cX4_two 149 = .ok (.goto 6, 3) := dk_167 0 6 (dk_at dksX4_two_3 5 rfl rfl)
theorem dX4_two_152 : decode cX4_two 152 = .ok (.iload_n 1, 1) := dk_27 (dk_at dksX4_two_3 8 rfl rfl)
theorem dX4_two_153 : decode cX4_two 153 = .ok (.iload_n 2, 1) := dk_28 (dk_at dksX4_two_3 9 rfl rfl)
theorem dX4_two_154 : decode cX4_two 154 = .ok (.irem, 1) := dk_112 (dk_at dksX4_two_3 10 rfl rfl)
theorem dX4_two_155 : decode cX4_two 155 = .ok (.ireturn, 1) := dk_172 (dk_at dksX4_two_3 11 rfl rfl)
theorem dX4_two_156 : decode cX4_two 156 = .ok (.iload_n 1, 1) := dk_27 (dk_at dksX4_two_3 12 rfl rfl)
theorem dX4_two_157 : decode cX4_two 157 = .ok (.iload_n 2, 1) := dk_28 (dk_at dksX4_two_3 13 rfl rfl)
theorem dX4_two_158 : decode cX4_two 158 = .ok (.if_icmp .ge 7, 3) := dk_162 0 7 (dk_at dksX4_two_3 14 rfl rfl)
theorem dX4_two_161 : decode cX4_two 161 = .ok (.iconst 1, 1) := dk_4 (dk_at dksX4_two_3 17 rfl rfl)
theorem dX4_two_162 : decode cX4_two 162 = .ok (.goto 4, 3) := dk_167 0 4 (dk_at dksX4_two_3 18 rfl rfl)
theorem dX4_two_165 : decode cX4_two 165 = .ok (.iconst 0, 1) := dk_3 (dk_at dksX4_two_3 21 rfl rfl)
theorem dX4_two_166 : decode cX4_two 166 = .ok (.ireturn, 1) := dk_172 (dk_at dksX4_two_3 22 rfl rfl)
theorem dX4_two_167 : decode cX4_two 167 = .ok (.iload_n 1, 1) := dk_27 (dk_at dksX4_two_3 23 rfl rfl)
theorem dX4_two_168 : decode cX4_two 168 = .ok (.iload_n 2, 1) := dk_28 (dk_at dksX4_two_4 0 rfl rfl)
theorem dX4_two_169 : decode cX4_two 169 = .ok (.if_icmp .le 7, 3) := dk_164 0 7 (dk_at dksX4_two_4 1 rfl rfl)
theorem dX4_two_172 : decode cX4_two 172 = .ok (.iconst 1, 1) := dk_4 (dk_at dksX4_two_4 4 rfl rfl)
theorem dX4_two_173 : decode cX4_two 173 = .ok (.goto 4, 3) := dk_167 0 4 (dk_at dksX4_two_4 5 rfl rfl)
theorem dX4_two_176 : decode cX4_two 176 = .ok (.iconst 0, 1) := dk_3 (dk_at dksX4_two_4 8 rfl rfl)
theorem dX4_two_177 : decode cX4_two 177 = .ok (.ireturn, 1) := dk_172 (dk_at dksX4_two_4 9 rfl rfl)
theorem dX4_two_178 : decode cX4_two 178 = .ok (.iload_n 1, 1) := dk_27 (dk_at dksX4_two_4 10 rfl rfl)
theorem dX4_two_179 : decode cX4_two 179 = .ok (.iload_n 2, 1) := dk_28 (dk_at dksX4_two_4 11 rfl rfl)
theorem dX4_two_180 : decode cX4_two 180 = .ok (.if_icmp .ne 7, 3) := dk_160 0 7 (dk_at dksX4_two_4 12 rfl rfl)
theorem dX4_two_183 : decode cX4_two 183 = .ok (.iconst 1, 1) := dk_4 (dk_at dksX4_two_4 15 rfl rfl)
theorem dX4_two_184 : decode cX4_two 184 = .ok (.goto 4, 3) := dk_167 0 4 (dk_at dksX4_two_4 16 rfl rfl)
theorem dX4_two_187 : decode cX4_two 187 = .ok (.iconst 0, 1) := dk_3 (dk_at dksX4_two_4 19 rfl rfl)
theorem dX4_two_188 : decode cX4_two 188 = .ok (.ireturn, 1) := dk_172 (dk_at dksX4_two_4 20 rfl rfl)
theorem dX4_two_189 : decode cX4_two 189 = .ok (.iload_n 1, 1) := dk_27 (dk_at dksX4_two_4 21 rfl rfl)
theorem dX4_two_190 : decode cX4_two 190 = .ok (.ifCond .eq 11, 3) := dk_153 0 11 (dk_at dksX4_two_5 0 rfl rfl)
theorem dX4_two_193 : decode cX4_two 193 = .ok (.iload_n 2, 1) := dk_28 (dk_at dksX4_two_5 3 rfl rfl)
theorem dX4_two_194 : decode cX4_two 194 = .ok (.ifCond .eq 7, 3) := dk_153 0 7 (dk_at dksX4_two_5 4 rfl rfl)
theorem dX4_two_197 : decode cX4_two 197 = .ok (.iconst 1, 1) := dk_4 (dk_at dksX4_two_5 7 rfl rfl)
theorem dX4_two_198 : decode cX4_two 198 = .ok (.goto 4, 3) := dk_167 0 4 (dk_at dksX4_two_5 8 rfl rfl)
theorem dX4_two_201 : decode cX4_two 201 = .ok (.iconst 0, 1) := dk_3 (dk_at dksX4_two_5 11 rfl rfl)
theorem dX4_two_202 : decode cX4_two 202 = .ok (.ireturn, 1) := dk_172 (dk_at dksX4_two_5 12 rfl rfl)
theorem dX4_two_203 : decode cX4_two 203 = .ok (.iload_n 1, 1) := dk_27 (dk_at dksX4_two_5 13 rfl rfl)
theorem dX4_two_204 : decode cX4_two 204 = .ok (.ifCond .ne 7, 3) := dk_154 0 7 (dk_at dksX4_two_5 14 rfl rfl)
theorem dX4_two_207 : decode cX4_two 207 = .ok (.iload_n 2, 1) := dk_28 (dk_at dksX4_two_5 17 rfl rfl)
theorem dX4_two_208 : decode cX4_two 208 = .ok (.ifCond .eq 7, 3) := dk_153 0 7 (dk_at dksX4_two_5 18 rfl rfl)
theorem dX4_two_211 : decode cX4_two 211 = .ok (.iconst 1, 1) := dk_4 (dk_at dksX4_two_5 21 rfl rfl)
theorem dX4_two_212 : decode cX4_two 212 = .ok (.goto 4, 3) := dk_167 0 4 (dk_at dksX4_two_6 0 rfl rfl)
theorem dX4_two_215 : decode cX4_two 215 = .ok (.iconst 0, 1) := dk_3 (dk_at dksX4_two_6 3 rfl rfl)
theorem dX4_two_216 : decode cX4_two 216 = .ok (.ireturn, 1) := dk_172 (dk_at dksX4_two_6 4 rfl rfl)
abbrev cX4_seal : ByteArray := prog_27_method_49_code
def yX4_seal : MethodName := ⟨RX4, "seal", "(II)I"⟩
def dkwX4_seal_1 : List UInt8 := [160, 0, 11, 42, 27, 182, 1, 130, 167, 0, 13, 42, 180, 0, 77, 7, 27, 104, 28, 96, 46, 172]
abbrev dktX4_seal_1 : List UInt8 := dkwX4_seal_1 ++ []
def dkwX4_seal_0 : List UInt8 := [42, 27, 182, 1, 127, 153, 0, 12, 28, 3, 7, 184, 1, 89, 154, 0, 7, 2, 167, 0, 26, 28, 7]
abbrev dktX4_seal_0 : List UInt8 := dkwX4_seal_0 ++ dktX4_seal_1
theorem dksX4_seal_0 : cX4_seal.data.toList.drop 0 = dktX4_seal_0 := by decide +kernel
theorem dksX4_seal_1 : cX4_seal.data.toList.drop 23 = dktX4_seal_1 := dk_seg dksX4_seal_0 23 rfl rfl
theorem dX4_seal_0 : decode cX4_seal 0 = .ok (.aload_n 0, 1) := dk_42 (dk_at dksX4_seal_0 0 rfl rfl)
theorem dX4_seal_1 : decode cX4_seal 1 = .ok (.iload_n 1, 1) := dk_27 (dk_at dksX4_seal_0 1 rfl rfl)
theorem dX4_seal_2 : decode cX4_seal 2 = .ok (.invokevirtual 383, 3) := dk_182 1 127 (dk_at dksX4_seal_0 2 rfl rfl)
theorem dX4_seal_5 : decode cX4_seal 5 = .ok (.ifCond .eq 12, 3) := dk_153 0 12 (dk_at dksX4_seal_0 5 rfl rfl)
theorem dX4_seal_8 : decode cX4_seal 8 = .ok (.iload_n 2, 1) := dk_28 (dk_at dksX4_seal_0 8 rfl rfl)
theorem dX4_seal_9 : decode cX4_seal 9 = .ok (.iconst 0, 1) := dk_3 (dk_at dksX4_seal_0 9 rfl rfl)
theorem dX4_seal_10 : decode cX4_seal 10 = .ok (.iconst 4, 1) := dk_7 (dk_at dksX4_seal_0 10 rfl rfl)
theorem dX4_seal_11 : decode cX4_seal 11 = .ok (.invokestatic 345, 3) := dk_184 1 89 (dk_at dksX4_seal_0 11 rfl rfl)
theorem dX4_seal_14 : decode cX4_seal 14 = .ok (.ifCond .ne 7, 3) := dk_154 0 7 (dk_at dksX4_seal_0 14 rfl rfl)
theorem dX4_seal_17 : decode cX4_seal 17 = .ok (.iconst (-1), 1) := dk_2 (dk_at dksX4_seal_0 17 rfl rfl)
theorem dX4_seal_18 : decode cX4_seal 18 = .ok (.goto 26, 3) := dk_167 0 26 (dk_at dksX4_seal_0 18 rfl rfl)
theorem dX4_seal_21 : decode cX4_seal 21 = .ok (.iload_n 2, 1) := dk_28 (dk_at dksX4_seal_0 21 rfl rfl)
theorem dX4_seal_22 : decode cX4_seal 22 = .ok (.iconst 4, 1) := dk_7 (dk_at dksX4_seal_0 22 rfl rfl)
theorem dX4_seal_23 : decode cX4_seal 23 = .ok (.if_icmp .ne 11, 3) := dk_160 0 11 (dk_at dksX4_seal_1 0 rfl rfl)
theorem dX4_seal_26 : decode cX4_seal 26 = .ok (.aload_n 0, 1) := dk_42 (dk_at dksX4_seal_1 3 rfl rfl)
theorem dX4_seal_27 : decode cX4_seal 27 = .ok (.iload_n 1, 1) := dk_27 (dk_at dksX4_seal_1 4 rfl rfl)
theorem dX4_seal_28 : decode cX4_seal 28 = .ok (.invokevirtual 386, 3) := dk_182 1 130 (dk_at dksX4_seal_1 5 rfl rfl)
theorem dX4_seal_31 : decode cX4_seal 31 = .ok (.goto 13, 3) := dk_167 0 13 (dk_at dksX4_seal_1 8 rfl rfl)
theorem dX4_seal_34 : decode cX4_seal 34 = .ok (.aload_n 0, 1) := dk_42 (dk_at dksX4_seal_1 11 rfl rfl)
theorem dX4_seal_35 : decode cX4_seal 35 = .ok (.getfield 77, 3) := dk_180 0 77 (dk_at dksX4_seal_1 12 rfl rfl)
theorem dX4_seal_38 : decode cX4_seal 38 = .ok (.iconst 4, 1) := dk_7 (dk_at dksX4_seal_1 15 rfl rfl)
theorem dX4_seal_39 : decode cX4_seal 39 = .ok (.iload_n 1, 1) := dk_27 (dk_at dksX4_seal_1 16 rfl rfl)
theorem dX4_seal_40 : decode cX4_seal 40 = .ok (.imul, 1) := dk_104 (dk_at dksX4_seal_1 17 rfl rfl)
theorem dX4_seal_41 : decode cX4_seal 41 = .ok (.iload_n 2, 1) := dk_28 (dk_at dksX4_seal_1 18 rfl rfl)
theorem dX4_seal_42 : decode cX4_seal 42 = .ok (.iadd, 1) := dk_96 (dk_at dksX4_seal_1 19 rfl rfl)
theorem dX4_seal_43 : decode cX4_seal 43 = .ok (.iaload, 1) := dk_46 (dk_at dksX4_seal_1 20 rfl rfl)
theorem dX4_seal_44 : decode cX4_seal 44 = .ok (.ireturn, 1) := dk_172 (dk_at dksX4_seal_1 21 rfl rfl)
abbrev cX4_isSeal : ByteArray := prog_27_method_40_code
def yX4_isSeal : MethodName := ⟨RX4, "isSeal", "(I)Z"⟩
def dkwX4_isSeal_0 : List UInt8 := [27, 3, 42, 180, 0, 77, 17, 0, 216, 46, 4, 100, 184, 1, 89, 172]
abbrev dktX4_isSeal_0 : List UInt8 := dkwX4_isSeal_0 ++ []
theorem dksX4_isSeal_0 : cX4_isSeal.data.toList.drop 0 = dktX4_isSeal_0 := by decide +kernel
theorem dX4_isSeal_0 : decode cX4_isSeal 0 = .ok (.iload_n 1, 1) := dk_27 (dk_at dksX4_isSeal_0 0 rfl rfl)
theorem dX4_isSeal_1 : decode cX4_isSeal 1 = .ok (.iconst 0, 1) := dk_3 (dk_at dksX4_isSeal_0 1 rfl rfl)
theorem dX4_isSeal_2 : decode cX4_isSeal 2 = .ok (.aload_n 0, 1) := dk_42 (dk_at dksX4_isSeal_0 2 rfl rfl)
theorem dX4_isSeal_3 : decode cX4_isSeal 3 = .ok (.getfield 77, 3) := dk_180 0 77 (dk_at dksX4_isSeal_0 3 rfl rfl)
theorem dX4_isSeal_6 : decode cX4_isSeal 6 = .ok (.sipush 216, 3) := dk_17 0 216 (dk_at dksX4_isSeal_0 6 rfl rfl)
theorem dX4_isSeal_9 : decode cX4_isSeal 9 = .ok (.iaload, 1) := dk_46 (dk_at dksX4_isSeal_0 9 rfl rfl)
theorem dX4_isSeal_10 : decode cX4_isSeal 10 = .ok (.iconst 1, 1) := dk_4 (dk_at dksX4_isSeal_0 10 rfl rfl)
theorem dX4_isSeal_11 : decode cX4_isSeal 11 = .ok (.isub, 1) := dk_100 (dk_at dksX4_isSeal_0 11 rfl rfl)
theorem dX4_isSeal_12 : decode cX4_isSeal 12 = .ok (.invokestatic 345, 3) := dk_184 1 89 (dk_at dksX4_isSeal_0 12 rfl rfl)
theorem dX4_isSeal_15 : decode cX4_isSeal 15 = .ok (.ireturn, 1) := dk_172 (dk_at dksX4_isSeal_0 15 rfl rfl)
abbrev cX4_deep : ByteArray := prog_27_method_48_code
def yX4_deep : MethodName := ⟨RX4, "deep", "(I)I"⟩
def dkwX4_deep_1 : List UInt8 := [167, 255, 238, 28, 172]
abbrev dktX4_deep_1 : List UInt8 := dkwX4_deep_1 ++ []
def dkwX4_deep_0 : List UInt8 := [3, 61, 27, 62, 29, 158, 0, 20, 132, 2, 1, 42, 180, 0, 77, 7, 29, 104, 4, 96, 46, 62]
abbrev dktX4_deep_0 : List UInt8 := dkwX4_deep_0 ++ dktX4_deep_1
theorem dksX4_deep_0 : cX4_deep.data.toList.drop 0 = dktX4_deep_0 := by decide +kernel
theorem dksX4_deep_1 : cX4_deep.data.toList.drop 22 = dktX4_deep_1 := dk_seg dksX4_deep_0 22 rfl rfl
theorem dX4_deep_0 : decode cX4_deep 0 = .ok (.iconst 0, 1) := dk_3 (dk_at dksX4_deep_0 0 rfl rfl)
theorem dX4_deep_1 : decode cX4_deep 1 = .ok (.istore_n 2, 1) := dk_61 (dk_at dksX4_deep_0 1 rfl rfl)
theorem dX4_deep_2 : decode cX4_deep 2 = .ok (.iload_n 1, 1) := dk_27 (dk_at dksX4_deep_0 2 rfl rfl)
theorem dX4_deep_3 : decode cX4_deep 3 = .ok (.istore_n 3, 1) := dk_62 (dk_at dksX4_deep_0 3 rfl rfl)
theorem dX4_deep_4 : decode cX4_deep 4 = .ok (.iload_n 3, 1) := dk_29 (dk_at dksX4_deep_0 4 rfl rfl)
theorem dX4_deep_5 : decode cX4_deep 5 = .ok (.ifCond .le 20, 3) := dk_158 0 20 (dk_at dksX4_deep_0 5 rfl rfl)
theorem dX4_deep_8 : decode cX4_deep 8 = .ok (.iinc 2 1, 3) := dk_132 2 1 (dk_at dksX4_deep_0 8 rfl rfl)
theorem dX4_deep_11 : decode cX4_deep 11 = .ok (.aload_n 0, 1) := dk_42 (dk_at dksX4_deep_0 11 rfl rfl)
theorem dX4_deep_12 : decode cX4_deep 12 = .ok (.getfield 77, 3) := dk_180 0 77 (dk_at dksX4_deep_0 12 rfl rfl)
theorem dX4_deep_15 : decode cX4_deep 15 = .ok (.iconst 4, 1) := dk_7 (dk_at dksX4_deep_0 15 rfl rfl)
theorem dX4_deep_16 : decode cX4_deep 16 = .ok (.iload_n 3, 1) := dk_29 (dk_at dksX4_deep_0 16 rfl rfl)
theorem dX4_deep_17 : decode cX4_deep 17 = .ok (.imul, 1) := dk_104 (dk_at dksX4_deep_0 17 rfl rfl)
theorem dX4_deep_18 : decode cX4_deep 18 = .ok (.iconst 1, 1) := dk_4 (dk_at dksX4_deep_0 18 rfl rfl)
theorem dX4_deep_19 : decode cX4_deep 19 = .ok (.iadd, 1) := dk_96 (dk_at dksX4_deep_0 19 rfl rfl)
theorem dX4_deep_20 : decode cX4_deep 20 = .ok (.iaload, 1) := dk_46 (dk_at dksX4_deep_0 20 rfl rfl)
theorem dX4_deep_21 : decode cX4_deep 21 = .ok (.istore_n 3, 1) := dk_62 (dk_at dksX4_deep_0 21 rfl rfl)
theorem dX4_deep_22 : decode cX4_deep 22 = .ok (.goto (-18), 3) := dk_167 255 238 (dk_at dksX4_deep_1 0 rfl rfl)
theorem dX4_deep_25 : decode cX4_deep 25 = .ok (.iload_n 2, 1) := dk_28 (dk_at dksX4_deep_1 3 rfl rfl)
theorem dX4_deep_26 : decode cX4_deep 26 = .ok (.ireturn, 1) := dk_172 (dk_at dksX4_deep_1 4 rfl rfl)
abbrev cX4_shown : ByteArray := prog_27_method_50_code
def yX4_shown : MethodName := ⟨RX4, "shown", "(II)I"⟩
def dkwX4_shown_1 : List UInt8 := [153, 0, 19, 42, 180, 0, 77, 16, 96, 6, 27, 104, 96, 28, 96, 46, 167, 0, 4, 2, 172]
abbrev dktX4_shown_1 : List UInt8 := dkwX4_shown_1 ++ []
def dkwX4_shown_0 : List UInt8 := [27, 3, 42, 180, 0, 77, 17, 0, 217, 46, 4, 100, 184, 1, 89, 153, 0, 28, 28, 3, 5, 184, 1, 89]
abbrev dktX4_shown_0 : List UInt8 := dkwX4_shown_0 ++ dktX4_shown_1
theorem dksX4_shown_0 : cX4_shown.data.toList.drop 0 = dktX4_shown_0 := by decide +kernel
theorem dksX4_shown_1 : cX4_shown.data.toList.drop 24 = dktX4_shown_1 := dk_seg dksX4_shown_0 24 rfl rfl
theorem dX4_shown_0 : decode cX4_shown 0 = .ok (.iload_n 1, 1) := dk_27 (dk_at dksX4_shown_0 0 rfl rfl)
theorem dX4_shown_1 : decode cX4_shown 1 = .ok (.iconst 0, 1) := dk_3 (dk_at dksX4_shown_0 1 rfl rfl)
theorem dX4_shown_2 : decode cX4_shown 2 = .ok (.aload_n 0, 1) := dk_42 (dk_at dksX4_shown_0 2 rfl rfl)
theorem dX4_shown_3 : decode cX4_shown 3 = .ok (.getfield 77, 3) := dk_180 0 77 (dk_at dksX4_shown_0 3 rfl rfl)
theorem dX4_shown_6 : decode cX4_shown 6 = .ok (.sipush 217, 3) := dk_17 0 217 (dk_at dksX4_shown_0 6 rfl rfl)
theorem dX4_shown_9 : decode cX4_shown 9 = .ok (.iaload, 1) := dk_46 (dk_at dksX4_shown_0 9 rfl rfl)
theorem dX4_shown_10 : decode cX4_shown 10 = .ok (.iconst 1, 1) := dk_4 (dk_at dksX4_shown_0 10 rfl rfl)
theorem dX4_shown_11 : decode cX4_shown 11 = .ok (.isub, 1) := dk_100 (dk_at dksX4_shown_0 11 rfl rfl)
theorem dX4_shown_12 : decode cX4_shown 12 = .ok (.invokestatic 345, 3) := dk_184 1 89 (dk_at dksX4_shown_0 12 rfl rfl)
theorem dX4_shown_15 : decode cX4_shown 15 = .ok (.ifCond .eq 28, 3) := dk_153 0 28 (dk_at dksX4_shown_0 15 rfl rfl)
theorem dX4_shown_18 : decode cX4_shown 18 = .ok (.iload_n 2, 1) := dk_28 (dk_at dksX4_shown_0 18 rfl rfl)
theorem dX4_shown_19 : decode cX4_shown 19 = .ok (.iconst 0, 1) := dk_3 (dk_at dksX4_shown_0 19 rfl rfl)
theorem dX4_shown_20 : decode cX4_shown 20 = .ok (.iconst 2, 1) := dk_5 (dk_at dksX4_shown_0 20 rfl rfl)
theorem dX4_shown_21 : decode cX4_shown 21 = .ok (.invokestatic 345, 3) := dk_184 1 89 (dk_at dksX4_shown_0 21 rfl rfl)
theorem dX4_shown_24 : decode cX4_shown 24 = .ok (.ifCond .eq 19, 3) := dk_153 0 19 (dk_at dksX4_shown_1 0 rfl rfl)
theorem dX4_shown_27 : decode cX4_shown 27 = .ok (.aload_n 0, 1) := dk_42 (dk_at dksX4_shown_1 3 rfl rfl)
theorem dX4_shown_28 : decode cX4_shown 28 = .ok (.getfield 77, 3) := dk_180 0 77 (dk_at dksX4_shown_1 4 rfl rfl)
theorem dX4_shown_31 : decode cX4_shown 31 = .ok (.bipush 96, 2) := dk_16 96 (dk_at dksX4_shown_1 7 rfl rfl)
theorem dX4_shown_33 : decode cX4_shown 33 = .ok (.iconst 3, 1) := dk_6 (dk_at dksX4_shown_1 9 rfl rfl)
theorem dX4_shown_34 : decode cX4_shown 34 = .ok (.iload_n 1, 1) := dk_27 (dk_at dksX4_shown_1 10 rfl rfl)
theorem dX4_shown_35 : decode cX4_shown 35 = .ok (.imul, 1) := dk_104 (dk_at dksX4_shown_1 11 rfl rfl)
theorem dX4_shown_36 : decode cX4_shown 36 = .ok (.iadd, 1) := dk_96 (dk_at dksX4_shown_1 12 rfl rfl)
theorem dX4_shown_37 : decode cX4_shown 37 = .ok (.iload_n 2, 1) := dk_28 (dk_at dksX4_shown_1 13 rfl rfl)
theorem dX4_shown_38 : decode cX4_shown 38 = .ok (.iadd, 1) := dk_96 (dk_at dksX4_shown_1 14 rfl rfl)
theorem dX4_shown_39 : decode cX4_shown 39 = .ok (.iaload, 1) := dk_46 (dk_at dksX4_shown_1 15 rfl rfl)
theorem dX4_shown_40 : decode cX4_shown 40 = .ok (.goto 4, 3) := dk_167 0 4 (dk_at dksX4_shown_1 16 rfl rfl)
theorem dX4_shown_43 : decode cX4_shown 43 = .ok (.iconst (-1), 1) := dk_2 (dk_at dksX4_shown_1 19 rfl rfl)
theorem dX4_shown_44 : decode cX4_shown 44 = .ok (.ireturn, 1) := dk_172 (dk_at dksX4_shown_1 20 rfl rfl)
abbrev cX4_prints : ByteArray := prog_27_method_51_code
def yX4_prints : MethodName := ⟨RX4, "prints", "(II)I"⟩
def dkwX4_prints_4 : List UInt8 := [167, 255, 193, 28, 154, 0, 7, 29, 167, 0, 15, 28, 4, 160, 0, 8, 21, 4, 167, 0, 5, 21, 5, 172]
abbrev dktX4_prints_4 : List UInt8 := dkwX4_prints_4 ++ []
def dkwX4_prints_3 : List UInt8 := [6, 21, 6, 104, 96, 5, 96, 46, 54, 5, 21, 4, 156, 0, 7, 21, 5, 54, 4, 132, 6, 1]
abbrev dktX4_prints_3 : List UInt8 := dkwX4_prints_3 ++ dktX4_prints_4
def dkwX4_prints_2 : List UInt8 := [16, 96, 6, 21, 6, 104, 96, 46, 27, 159, 0, 6, 167, 0, 31, 132, 3, 1, 42, 180, 0, 77, 16, 96]
abbrev dktX4_prints_2 : List UInt8 := dkwX4_prints_2 ++ dktX4_prints_3
def dkwX4_prints_1 : List UInt8 := [2, 54, 5, 3, 54, 6, 21, 6, 42, 180, 0, 77, 17, 0, 217, 46, 162, 0, 56, 42, 180, 0, 77]
abbrev dktX4_prints_1 : List UInt8 := dkwX4_prints_1 ++ dktX4_prints_2
def dkwX4_prints_0 : List UInt8 := [42, 27, 182, 1, 102, 153, 0, 12, 28, 3, 5, 184, 1, 89, 154, 0, 5, 2, 172, 3, 62, 2, 54, 4]
abbrev dktX4_prints_0 : List UInt8 := dkwX4_prints_0 ++ dktX4_prints_1
theorem dksX4_prints_0 : cX4_prints.data.toList.drop 0 = dktX4_prints_0 := by decide +kernel
theorem dksX4_prints_1 : cX4_prints.data.toList.drop 24 = dktX4_prints_1 := dk_seg dksX4_prints_0 24 rfl rfl
theorem dksX4_prints_2 : cX4_prints.data.toList.drop 47 = dktX4_prints_2 := dk_seg dksX4_prints_1 23 rfl rfl
theorem dksX4_prints_3 : cX4_prints.data.toList.drop 71 = dktX4_prints_3 := dk_seg dksX4_prints_2 24 rfl rfl
theorem dksX4_prints_4 : cX4_prints.data.toList.drop 93 = dktX4_prints_4 := dk_seg dksX4_prints_3 22 rfl rfl
theorem dX4_prints_0 : decode cX4_prints 0 = .ok (.aload_n 0, 1) := dk_42 (dk_at dksX4_prints_0 0 rfl rfl)
theorem dX4_prints_1 : decode cX4_prints 1 = .ok (.iload_n 1, 1) := dk_27 (dk_at dksX4_prints_0 1 rfl rfl)
theorem dX4_prints_2 : decode cX4_prints 2 = .ok (.invokevirtual 358, 3) := dk_182 1 102 (dk_at dksX4_prints_0 2 rfl rfl)
theorem dX4_prints_5 : decode cX4_prints 5 = .ok (.ifCond .eq 12, 3) := dk_153 0 12 (dk_at dksX4_prints_0 5 rfl rfl)
theorem dX4_prints_8 : decode cX4_prints 8 = .ok (.iload_n 2, 1) := dk_28 (dk_at dksX4_prints_0 8 rfl rfl)
theorem dX4_prints_9 : decode cX4_prints 9 = .ok (.iconst 0, 1) := dk_3 (dk_at dksX4_prints_0 9 rfl rfl)
theorem dX4_prints_10 : decode cX4_prints 10 = .ok (.iconst 2, 1) := dk_5 (dk_at dksX4_prints_0 10 rfl rfl)
theorem dX4_prints_11 : decode cX4_prints 11 = .ok (.invokestatic 345, 3) := dk_184 1 89 (dk_at dksX4_prints_0 11 rfl rfl)
theorem dX4_prints_14 : decode cX4_prints 14 = .ok (.ifCond .ne 5, 3) := dk_154 0 5 (dk_at dksX4_prints_0 14 rfl rfl)
theorem dX4_prints_17 : decode cX4_prints 17 = .ok (.iconst (-1), 1) := dk_2 (dk_at dksX4_prints_0 17 rfl rfl)
theorem dX4_prints_18 : decode cX4_prints 18 = .ok (.ireturn, 1) := dk_172 (dk_at dksX4_prints_0 18 rfl rfl)
theorem dX4_prints_19 : decode cX4_prints 19 = .ok (.iconst 0, 1) := dk_3 (dk_at dksX4_prints_0 19 rfl rfl)
theorem dX4_prints_20 : decode cX4_prints 20 = .ok (.istore_n 3, 1) := dk_62 (dk_at dksX4_prints_0 20 rfl rfl)
theorem dX4_prints_21 : decode cX4_prints 21 = .ok (.iconst (-1), 1) := dk_2 (dk_at dksX4_prints_0 21 rfl rfl)
theorem dX4_prints_22 : decode cX4_prints 22 = .ok (.istore 4, 2) := dk_54 4 (dk_at dksX4_prints_0 22 rfl rfl)
theorem dX4_prints_24 : decode cX4_prints 24 = .ok (.iconst (-1), 1) := dk_2 (dk_at dksX4_prints_1 0 rfl rfl)
theorem dX4_prints_25 : decode cX4_prints 25 = .ok (.istore 5, 2) := dk_54 5 (dk_at dksX4_prints_1 1 rfl rfl)
theorem dX4_prints_27 : decode cX4_prints 27 = .ok (.iconst 0, 1) := dk_3 (dk_at dksX4_prints_1 3 rfl rfl)
theorem dX4_prints_28 : decode cX4_prints 28 = .ok (.istore 6, 2) := dk_54 6 (dk_at dksX4_prints_1 4 rfl rfl)
theorem dX4_prints_30 : decode cX4_prints 30 = .ok (.iload 6, 2) := dk_21 6 (dk_at dksX4_prints_1 6 rfl rfl)
theorem dX4_prints_32 : decode cX4_prints 32 = .ok (.aload_n 0, 1) := dk_42 (dk_at dksX4_prints_1 8 rfl rfl)
theorem dX4_prints_33 : decode cX4_prints 33 = .ok (.getfield 77, 3) := dk_180 0 77 (dk_at dksX4_prints_1 9 rfl rfl)
theorem dX4_prints_36 : decode cX4_prints 36 = .ok (.sipush 217, 3) := dk_17 0 217 (dk_at dksX4_prints_1 12 rfl rfl)
theorem dX4_prints_39 : decode cX4_prints 39 = .ok (.iaload, 1) := dk_46 (dk_at dksX4_prints_1 15 rfl rfl)
theorem dX4_prints_40 : decode cX4_prints 40 = .ok (.if_icmp .ge 56, 3) := dk_162 0 56 (dk_at dksX4_prints_1 16 rfl rfl)
theorem dX4_prints_43 : decode cX4_prints 43 = .ok (.aload_n 0, 1) := dk_42 (dk_at dksX4_prints_1 19 rfl rfl)
theorem dX4_prints_44 : decode cX4_prints 44 = .ok (.getfield 77, 3) := dk_180 0 77 (dk_at dksX4_prints_1 20 rfl rfl)
theorem dX4_prints_47 : decode cX4_prints 47 = .ok (.bipush 96, 2) := dk_16 96 (dk_at dksX4_prints_2 0 rfl rfl)
theorem dX4_prints_49 : decode cX4_prints 49 = .ok (.iconst 3, 1) := dk_6 (dk_at dksX4_prints_2 2 rfl rfl)
theorem dX4_prints_50 : decode cX4_prints 50 = .ok (.iload 6, 2) := dk_21 6 (dk_at dksX4_prints_2 3 rfl rfl)
theorem dX4_prints_52 : decode cX4_prints 52 = .ok (.imul, 1) := dk_104 (dk_at dksX4_prints_2 5 rfl rfl)
theorem dX4_prints_53 : decode cX4_prints 53 = .ok (.iadd, 1) := dk_96 (dk_at dksX4_prints_2 6 rfl rfl)
theorem dX4_prints_54 : decode cX4_prints 54 = .ok (.iaload, 1) := dk_46 (dk_at dksX4_prints_2 7 rfl rfl)
theorem dX4_prints_55 : decode cX4_prints 55 = .ok (.iload_n 1, 1) := dk_27 (dk_at dksX4_prints_2 8 rfl rfl)
theorem dX4_prints_56 : decode cX4_prints 56 = .ok (.if_icmp .eq 6, 3) := dk_159 0 6 (dk_at dksX4_prints_2 9 rfl rfl)
theorem dX4_prints_59 : decode cX4_prints 59 = .ok (.goto 31, 3) := dk_167 0 31 (dk_at dksX4_prints_2 12 rfl rfl)
theorem dX4_prints_62 : decode cX4_prints 62 = .ok (.iinc 3 1, 3) := dk_132 3 1 (dk_at dksX4_prints_2 15 rfl rfl)
theorem dX4_prints_65 : decode cX4_prints 65 = .ok (.aload_n 0, 1) := dk_42 (dk_at dksX4_prints_2 18 rfl rfl)
theorem dX4_prints_66 : decode cX4_prints 66 = .ok (.getfield 77, 3) := dk_180 0 77 (dk_at dksX4_prints_2 19 rfl rfl)
theorem dX4_prints_69 : decode cX4_prints 69 = .ok (.bipush 96, 2) := dk_16 96 (dk_at dksX4_prints_2 22 rfl rfl)
theorem dX4_prints_71 : decode cX4_prints 71 = .ok (.iconst 3, 1) := dk_6 (dk_at dksX4_prints_3 0 rfl rfl)
theorem dX4_prints_72 : decode cX4_prints 72 = .ok (.iload 6, 2) := dk_21 6 (dk_at dksX4_prints_3 1 rfl rfl)
theorem dX4_prints_74 : decode cX4_prints 74 = .ok (.imul, 1) := dk_104 (dk_at dksX4_prints_3 3 rfl rfl)
theorem dX4_prints_75 : decode cX4_prints 75 = .ok (.iadd, 1) := dk_96 (dk_at dksX4_prints_3 4 rfl rfl)
theorem dX4_prints_76 : decode cX4_prints 76 = .ok (.iconst 2, 1) := dk_5 (dk_at dksX4_prints_3 5 rfl rfl)
theorem dX4_prints_77 : decode cX4_prints 77 = .ok (.iadd, 1) := dk_96 (dk_at dksX4_prints_3 6 rfl rfl)
theorem dX4_prints_78 : decode cX4_prints 78 = .ok (.iaload, 1) := dk_46 (dk_at dksX4_prints_3 7 rfl rfl)
theorem dX4_prints_79 : decode cX4_prints 79 = .ok (.istore 5, 2) := dk_54 5 (dk_at dksX4_prints_3 8 rfl rfl)
theorem dX4_prints_81 : decode cX4_prints 81 = .ok (.iload 4, 2) := dk_21 4 (dk_at dksX4_prints_3 10 rfl rfl)
theorem dX4_prints_83 : decode cX4_prints 83 = .ok (.ifCond .ge 7, 3) := dk_156 0 7 (dk_at dksX4_prints_3 12 rfl rfl)
theorem dX4_prints_86 : decode cX4_prints 86 = .ok (.iload 5, 2) := dk_21 5 (dk_at dksX4_prints_3 15 rfl rfl)
theorem dX4_prints_88 : decode cX4_prints 88 = .ok (.istore 4, 2) := dk_54 4 (dk_at dksX4_prints_3 17 rfl rfl)
theorem dX4_prints_90 : decode cX4_prints 90 = .ok (.iinc 6 1, 3) := dk_132 6 1 (dk_at dksX4_prints_3 19 rfl rfl)
theorem dX4_prints_93 : decode cX4_prints 93 = .ok (.goto (-63), 3) := dk_167 255 193 (dk_at dksX4_prints_4 0 rfl rfl)
theorem dX4_prints_96 : decode cX4_prints 96 = .ok (.iload_n 2, 1) := dk_28 (dk_at dksX4_prints_4 3 rfl rfl)
theorem dX4_prints_97 : decode cX4_prints 97 = .ok (.ifCond .ne 7, 3) := dk_154 0 7 (dk_at dksX4_prints_4 4 rfl rfl)
theorem dX4_prints_100 : decode cX4_prints 100 = .ok (.iload_n 3, 1) := dk_29 (dk_at dksX4_prints_4 7 rfl rfl)
theorem dX4_prints_101 : decode cX4_prints 101 = .ok (.goto 15, 3) := dk_167 0 15 (dk_at dksX4_prints_4 8 rfl rfl)
theorem dX4_prints_104 : decode cX4_prints 104 = .ok (.iload_n 2, 1) := dk_28 (dk_at dksX4_prints_4 11 rfl rfl)
theorem dX4_prints_105 : decode cX4_prints 105 = .ok (.iconst 1, 1) := dk_4 (dk_at dksX4_prints_4 12 rfl rfl)
theorem dX4_prints_106 : decode cX4_prints 106 = .ok (.if_icmp .ne 8, 3) := dk_160 0 8 (dk_at dksX4_prints_4 13 rfl rfl)
theorem dX4_prints_109 : decode cX4_prints 109 = .ok (.iload 4, 2) := dk_21 4 (dk_at dksX4_prints_4 16 rfl rfl)
theorem dX4_prints_111 : decode cX4_prints 111 = .ok (.goto 5, 3) := dk_167 0 5 (dk_at dksX4_prints_4 18 rfl rfl)
theorem dX4_prints_114 : decode cX4_prints 114 = .ok (.iload 5, 2) := dk_21 5 (dk_at dksX4_prints_4 21 rfl rfl)
theorem dX4_prints_116 : decode cX4_prints 116 = .ok (.ireturn, 1) := dk_172 (dk_at dksX4_prints_4 23 rfl rfl)
abbrev cX4_cast : ByteArray := prog_27_method_54_code
def yX4_cast : MethodName := ⟨RX4, "cast", "(III)I"⟩
def dkwX4_cast_8 : List UInt8 := [29, 96, 100, 79, 21, 4, 172]
abbrev dktX4_cast_8 : List UInt8 := dkwX4_cast_8 ++ []
def dkwX4_cast_7 : List UInt8 := [46, 79, 42, 180, 0, 77, 17, 0, 216, 92, 46, 4, 96, 79, 42, 180, 0, 77, 17, 0, 218, 92, 46, 4]
abbrev dktX4_cast_7 : List UInt8 := dkwX4_cast_7 ++ dktX4_cast_8
def dkwX4_cast_6 : List UInt8 := [21, 4, 104, 5, 96, 28, 79, 42, 180, 0, 77, 7, 21, 4, 104, 6, 96, 42, 180, 0, 77, 17, 0, 219]
abbrev dktX4_cast_6 : List UInt8 := dkwX4_cast_6 ++ dktX4_cast_7
def dkwX4_cast_5 : List UInt8 := [16, 100, 112, 182, 1, 111, 79, 42, 180, 0, 77, 7, 21, 4, 104, 4, 96, 27, 79, 42, 180, 0, 77, 7]
abbrev dktX4_cast_5 : List UInt8 := dkwX4_cast_5 ++ dktX4_cast_6
def dkwX4_cast_4 : List UInt8 := [180, 0, 77, 7, 21, 4, 104, 42, 42, 27, 182, 1, 136, 28, 29, 42, 180, 0, 77, 17, 0, 220, 46]
abbrev dktX4_cast_4 : List UInt8 := dkwX4_cast_4 ++ dktX4_cast_5
def dkwX4_cast_3 : List UInt8 := [17, 0, 220, 17, 0, 137, 42, 180, 0, 77, 17, 0, 220, 46, 104, 16, 71, 96, 17, 3, 232, 112, 79, 42]
abbrev dktX4_cast_3 : List UInt8 := dkwX4_cast_3 ++ dktX4_cast_4
def dkwX4_cast_2 : List UInt8 := [162, 0, 5, 2, 172, 42, 182, 1, 133, 42, 180, 0, 77, 17, 0, 216, 46, 54, 4, 42, 180, 0, 77]
abbrev dktX4_cast_2 : List UInt8 := dkwX4_cast_2 ++ dktX4_cast_3
def dkwX4_cast_1 : List UInt8 := [180, 0, 77, 17, 0, 216, 46, 16, 24, 159, 0, 17, 42, 180, 0, 77, 17, 0, 218, 46, 4, 29, 96]
abbrev dktX4_cast_1 : List UInt8 := dkwX4_cast_1 ++ dktX4_cast_2
def dkwX4_cast_0 : List UInt8 := [42, 27, 182, 1, 127, 153, 0, 45, 42, 28, 182, 1, 105, 153, 0, 37, 29, 184, 1, 108, 153, 0, 30, 42]
abbrev dktX4_cast_0 : List UInt8 := dkwX4_cast_0 ++ dktX4_cast_1
theorem dksX4_cast_0 : cX4_cast.data.toList.drop 0 = dktX4_cast_0 := by decide +kernel
theorem dksX4_cast_1 : cX4_cast.data.toList.drop 24 = dktX4_cast_1 := dk_seg dksX4_cast_0 24 rfl rfl
theorem dksX4_cast_2 : cX4_cast.data.toList.drop 47 = dktX4_cast_2 := dk_seg dksX4_cast_1 23 rfl rfl
theorem dksX4_cast_3 : cX4_cast.data.toList.drop 70 = dktX4_cast_3 := dk_seg dksX4_cast_2 23 rfl rfl
theorem dksX4_cast_4 : cX4_cast.data.toList.drop 94 = dktX4_cast_4 := dk_seg dksX4_cast_3 24 rfl rfl
theorem dksX4_cast_5 : cX4_cast.data.toList.drop 117 = dktX4_cast_5 := dk_seg dksX4_cast_4 23 rfl rfl
theorem dksX4_cast_6 : cX4_cast.data.toList.drop 141 = dktX4_cast_6 := dk_seg dksX4_cast_5 24 rfl rfl
theorem dksX4_cast_7 : cX4_cast.data.toList.drop 165 = dktX4_cast_7 := dk_seg dksX4_cast_6 24 rfl rfl
theorem dksX4_cast_8 : cX4_cast.data.toList.drop 189 = dktX4_cast_8 := dk_seg dksX4_cast_7 24 rfl rfl
theorem dX4_cast_0 : decode cX4_cast 0 = .ok (.aload_n 0, 1) := dk_42 (dk_at dksX4_cast_0 0 rfl rfl)
theorem dX4_cast_1 : decode cX4_cast 1 = .ok (.iload_n 1, 1) := dk_27 (dk_at dksX4_cast_0 1 rfl rfl)
theorem dX4_cast_2 : decode cX4_cast 2 = .ok (.invokevirtual 383, 3) := dk_182 1 127 (dk_at dksX4_cast_0 2 rfl rfl)
theorem dX4_cast_5 : decode cX4_cast 5 = .ok (.ifCond .eq 45, 3) := dk_153 0 45 (dk_at dksX4_cast_0 5 rfl rfl)
theorem dX4_cast_8 : decode cX4_cast 8 = .ok (.aload_n 0, 1) := dk_42 (dk_at dksX4_cast_0 8 rfl rfl)
theorem dX4_cast_9 : decode cX4_cast 9 = .ok (.iload_n 2, 1) := dk_28 (dk_at dksX4_cast_0 9 rfl rfl)
theorem dX4_cast_10 : decode cX4_cast 10 = .ok (.invokevirtual 361, 3) := dk_182 1 105 (dk_at dksX4_cast_0 10 rfl rfl)
theorem dX4_cast_13 : decode cX4_cast 13 = .ok (.ifCond .eq 37, 3) := dk_153 0 37 (dk_at dksX4_cast_0 13 rfl rfl)
theorem dX4_cast_16 : decode cX4_cast 16 = .ok (.iload_n 3, 1) := dk_29 (dk_at dksX4_cast_0 16 rfl rfl)
theorem dX4_cast_17 : decode cX4_cast 17 = .ok (.invokestatic 364, 3) := dk_184 1 108 (dk_at dksX4_cast_0 17 rfl rfl)
theorem dX4_cast_20 : decode cX4_cast 20 = .ok (.ifCond .eq 30, 3) := dk_153 0 30 (dk_at dksX4_cast_0 20 rfl rfl)
theorem dX4_cast_23 : decode cX4_cast 23 = .ok (.aload_n 0, 1) := dk_42 (dk_at dksX4_cast_0 23 rfl rfl)
theorem dX4_cast_24 : decode cX4_cast 24 = .ok (.getfield 77, 3) := dk_180 0 77 (dk_at dksX4_cast_1 0 rfl rfl)
theorem dX4_cast_27 : decode cX4_cast 27 = .ok (.sipush 216, 3) := dk_17 0 216 (dk_at dksX4_cast_1 3 rfl rfl)
theorem dX4_cast_30 : decode cX4_cast 30 = .ok (.iaload, 1) := dk_46 (dk_at dksX4_cast_1 6 rfl rfl)
theorem dX4_cast_31 : decode cX4_cast 31 = .ok (.bipush 24, 2) := dk_16 24 (dk_at dksX4_cast_1 7 rfl rfl)
theorem dX4_cast_33 : decode cX4_cast 33 = .ok (.if_icmp .eq 17, 3) := dk_159 0 17 (dk_at dksX4_cast_1 9 rfl rfl)
theorem dX4_cast_36 : decode cX4_cast 36 = .ok (.aload_n 0, 1) := dk_42 (dk_at dksX4_cast_1 12 rfl rfl)
theorem dX4_cast_37 : decode cX4_cast 37 = .ok (.getfield 77, 3) := dk_180 0 77 (dk_at dksX4_cast_1 13 rfl rfl)
theorem dX4_cast_40 : decode cX4_cast 40 = .ok (.sipush 218, 3) := dk_17 0 218 (dk_at dksX4_cast_1 16 rfl rfl)
theorem dX4_cast_43 : decode cX4_cast 43 = .ok (.iaload, 1) := dk_46 (dk_at dksX4_cast_1 19 rfl rfl)
theorem dX4_cast_44 : decode cX4_cast 44 = .ok (.iconst 1, 1) := dk_4 (dk_at dksX4_cast_1 20 rfl rfl)
theorem dX4_cast_45 : decode cX4_cast 45 = .ok (.iload_n 3, 1) := dk_29 (dk_at dksX4_cast_1 21 rfl rfl)
theorem dX4_cast_46 : decode cX4_cast 46 = .ok (.iadd, 1) := dk_96 (dk_at dksX4_cast_1 22 rfl rfl)
theorem dX4_cast_47 : decode cX4_cast 47 = .ok (.if_icmp .ge 5, 3) := dk_162 0 5 (dk_at dksX4_cast_2 0 rfl rfl)
theorem dX4_cast_50 : decode cX4_cast 50 = .ok (.iconst (-1), 1) := dk_2 (dk_at dksX4_cast_2 3 rfl rfl)
theorem dX4_cast_51 : decode cX4_cast 51 = .ok (.ireturn, 1) := dk_172 (dk_at dksX4_cast_2 4 rfl rfl)
theorem dX4_cast_52 : decode cX4_cast 52 = .ok (.aload_n 0, 1) := dk_42 (dk_at dksX4_cast_2 5 rfl rfl)
theorem dX4_cast_53 : decode cX4_cast 53 = .ok (.invokevirtual 389, 3) := dk_182 1 133 (dk_at dksX4_cast_2 6 rfl rfl)
theorem dX4_cast_56 : decode cX4_cast 56 = .ok (.aload_n 0, 1) := dk_42 (dk_at dksX4_cast_2 9 rfl rfl)
theorem dX4_cast_57 : decode cX4_cast 57 = .ok (.getfield 77, 3) := dk_180 0 77 (dk_at dksX4_cast_2 10 rfl rfl)
theorem dX4_cast_60 : decode cX4_cast 60 = .ok (.sipush 216, 3) := dk_17 0 216 (dk_at dksX4_cast_2 13 rfl rfl)
theorem dX4_cast_63 : decode cX4_cast 63 = .ok (.iaload, 1) := dk_46 (dk_at dksX4_cast_2 16 rfl rfl)
theorem dX4_cast_64 : decode cX4_cast 64 = .ok (.istore 4, 2) := dk_54 4 (dk_at dksX4_cast_2 17 rfl rfl)
theorem dX4_cast_66 : decode cX4_cast 66 = .ok (.aload_n 0, 1) := dk_42 (dk_at dksX4_cast_2 19 rfl rfl)
theorem dX4_cast_67 : decode cX4_cast 67 = .ok (.getfield 77, 3) := dk_180 0 77 (dk_at dksX4_cast_2 20 rfl rfl)
theorem dX4_cast_70 : decode cX4_cast 70 = .ok (.sipush 220, 3) := dk_17 0 220 (dk_at dksX4_cast_3 0 rfl rfl)
theorem dX4_cast_73 : decode cX4_cast 73 = .ok (.sipush 137, 3) := dk_17 0 137 (dk_at dksX4_cast_3 3 rfl rfl)
theorem dX4_cast_76 : decode cX4_cast 76 = .ok (.aload_n 0, 1) := dk_42 (dk_at dksX4_cast_3 6 rfl rfl)
theorem dX4_cast_77 : decode cX4_cast 77 = .ok (.getfield 77, 3) := dk_180 0 77 (dk_at dksX4_cast_3 7 rfl rfl)
theorem dX4_cast_80 : decode cX4_cast 80 = .ok (.sipush 220, 3) := dk_17 0 220 (dk_at dksX4_cast_3 10 rfl rfl)
theorem dX4_cast_83 : decode cX4_cast 83 = .ok (.iaload, 1) := dk_46 (dk_at dksX4_cast_3 13 rfl rfl)
theorem dX4_cast_84 : decode cX4_cast 84 = .ok (.imul, 1) := dk_104 (dk_at dksX4_cast_3 14 rfl rfl)
theorem dX4_cast_85 : decode cX4_cast 85 = .ok (.bipush 71, 2) := dk_16 71 (dk_at dksX4_cast_3 15 rfl rfl)
theorem dX4_cast_87 : decode cX4_cast 87 = .ok (.iadd, 1) := dk_96 (dk_at dksX4_cast_3 17 rfl rfl)
theorem dX4_cast_88 : decode cX4_cast 88 = .ok (.sipush 1000, 3) := dk_17 3 232 (dk_at dksX4_cast_3 18 rfl rfl)
theorem dX4_cast_91 : decode cX4_cast 91 = .ok (.irem, 1) := dk_112 (dk_at dksX4_cast_3 21 rfl rfl)
theorem dX4_cast_92 : decode cX4_cast 92 = .ok (.iastore, 1) := dk_79 (dk_at dksX4_cast_3 22 rfl rfl)
theorem dX4_cast_93 : decode cX4_cast 93 = .ok (.aload_n 0, 1) := dk_42 (dk_at dksX4_cast_3 23 rfl rfl)
theorem dX4_cast_94 : decode cX4_cast 94 = .ok (.getfield 77, 3) := dk_180 0 77 (dk_at dksX4_cast_4 0 rfl rfl)
theorem dX4_cast_97 : decode cX4_cast 97 = .ok (.iconst 4, 1) := dk_7 (dk_at dksX4_cast_4 3 rfl rfl)
theorem dX4_cast_98 : decode cX4_cast 98 = .ok (.iload 4, 2) := dk_21 4 (dk_at dksX4_cast_4 4 rfl rfl)
theorem dX4_cast_100 : decode cX4_cast 100 = .ok (.imul, 1) := dk_104 (dk_at dksX4_cast_4 6 rfl rfl)
theorem dX4_cast_101 : decode cX4_cast 101 = .ok (.aload_n 0, 1) := dk_42 (dk_at dksX4_cast_4 7 rfl rfl)
theorem dX4_cast_102 : decode cX4_cast 102 = .ok (.aload_n 0, 1) := dk_42 (dk_at dksX4_cast_4 8 rfl rfl)
theorem dX4_cast_103 : decode cX4_cast 103 = .ok (.iload_n 1, 1) := dk_27 (dk_at dksX4_cast_4 9 rfl rfl)
theorem dX4_cast_104 : decode cX4_cast 104 = .ok (.invokevirtual 392, 3) := dk_182 1 136 (dk_at dksX4_cast_4 10 rfl rfl)
theorem dX4_cast_107 : decode cX4_cast 107 = .ok (.iload_n 2, 1) := dk_28 (dk_at dksX4_cast_4 13 rfl rfl)
theorem dX4_cast_108 : decode cX4_cast 108 = .ok (.iload_n 3, 1) := dk_29 (dk_at dksX4_cast_4 14 rfl rfl)
theorem dX4_cast_109 : decode cX4_cast 109 = .ok (.aload_n 0, 1) := dk_42 (dk_at dksX4_cast_4 15 rfl rfl)
theorem dX4_cast_110 : decode cX4_cast 110 = .ok (.getfield 77, 3) := dk_180 0 77 (dk_at dksX4_cast_4 16 rfl rfl)
theorem dX4_cast_113 : decode cX4_cast 113 = .ok (.sipush 220, 3) := dk_17 0 220 (dk_at dksX4_cast_4 19 rfl rfl)
theorem dX4_cast_116 : decode cX4_cast 116 = .ok (.iaload, 1) := dk_46 (dk_at dksX4_cast_4 22 rfl rfl)
theorem dX4_cast_117 : decode cX4_cast 117 = .ok (.bipush 100, 2) := dk_16 100 (dk_at dksX4_cast_5 0 rfl rfl)
theorem dX4_cast_119 : decode cX4_cast 119 = .ok (.irem, 1) := dk_112 (dk_at dksX4_cast_5 2 rfl rfl)
theorem dX4_cast_120 : decode cX4_cast 120 = .ok (.invokevirtual 367, 3) := dk_182 1 111 (dk_at dksX4_cast_5 3 rfl rfl)
theorem dX4_cast_123 : decode cX4_cast 123 = .ok (.iastore, 1) := dk_79 (dk_at dksX4_cast_5 6 rfl rfl)
theorem dX4_cast_124 : decode cX4_cast 124 = .ok (.aload_n 0, 1) := dk_42 (dk_at dksX4_cast_5 7 rfl rfl)
theorem dX4_cast_125 : decode cX4_cast 125 = .ok (.getfield 77, 3) := dk_180 0 77 (dk_at dksX4_cast_5 8 rfl rfl)
theorem dX4_cast_128 : decode cX4_cast 128 = .ok (.iconst 4, 1) := dk_7 (dk_at dksX4_cast_5 11 rfl rfl)
theorem dX4_cast_129 : decode cX4_cast 129 = .ok (.iload 4, 2) := dk_21 4 (dk_at dksX4_cast_5 12 rfl rfl)
theorem dX4_cast_131 : decode cX4_cast 131 = .ok (.imul, 1) := dk_104 (dk_at dksX4_cast_5 14 rfl rfl)
theorem dX4_cast_132 : decode cX4_cast 132 = .ok (.iconst 1, 1) := dk_4 (dk_at dksX4_cast_5 15 rfl rfl)
theorem dX4_cast_133 : decode cX4_cast 133 = .ok (.iadd, 1) := dk_96 (dk_at dksX4_cast_5 16 rfl rfl)
theorem dX4_cast_134 : decode cX4_cast 134 = .ok (.iload_n 1, 1) := dk_27 (dk_at dksX4_cast_5 17 rfl rfl)
theorem dX4_cast_135 : decode cX4_cast 135 = .ok (.iastore, 1) := dk_79 (dk_at dksX4_cast_5 18 rfl rfl)
theorem dX4_cast_136 : decode cX4_cast 136 = .ok (.aload_n 0, 1) := dk_42 (dk_at dksX4_cast_5 19 rfl rfl)
theorem dX4_cast_137 : decode cX4_cast 137 = .ok (.getfield 77, 3) := dk_180 0 77 (dk_at dksX4_cast_5 20 rfl rfl)
theorem dX4_cast_140 : decode cX4_cast 140 = .ok (.iconst 4, 1) := dk_7 (dk_at dksX4_cast_5 23 rfl rfl)
theorem dX4_cast_141 : decode cX4_cast 141 = .ok (.iload 4, 2) := dk_21 4 (dk_at dksX4_cast_6 0 rfl rfl)
theorem dX4_cast_143 : decode cX4_cast 143 = .ok (.imul, 1) := dk_104 (dk_at dksX4_cast_6 2 rfl rfl)
theorem dX4_cast_144 : decode cX4_cast 144 = .ok (.iconst 2, 1) := dk_5 (dk_at dksX4_cast_6 3 rfl rfl)
theorem dX4_cast_145 : decode cX4_cast 145 = .ok (.iadd, 1) := dk_96 (dk_at dksX4_cast_6 4 rfl rfl)
theorem dX4_cast_146 : decode cX4_cast 146 = .ok (.iload_n 2, 1) := dk_28 (dk_at dksX4_cast_6 5 rfl rfl)
theorem dX4_cast_147 : decode cX4_cast 147 = .ok (.iastore, 1) := dk_79 (dk_at dksX4_cast_6 6 rfl rfl)
theorem dX4_cast_148 : decode cX4_cast 148 = .ok (.aload_n 0, 1) := dk_42 (dk_at dksX4_cast_6 7 rfl rfl)
theorem dX4_cast_149 : decode cX4_cast 149 = .ok (.getfield 77, 3) := dk_180 0 77 (dk_at dksX4_cast_6 8 rfl rfl)
theorem dX4_cast_152 : decode cX4_cast 152 = .ok (.iconst 4, 1) := dk_7 (dk_at dksX4_cast_6 11 rfl rfl)
theorem dX4_cast_153 : decode cX4_cast 153 = .ok (.iload 4, 2) := dk_21 4 (dk_at dksX4_cast_6 12 rfl rfl)
theorem dX4_cast_155 : decode cX4_cast 155 = .ok (.imul, 1) := dk_104 (dk_at dksX4_cast_6 14 rfl rfl)
theorem dX4_cast_156 : decode cX4_cast 156 = .ok (.iconst 3, 1) := dk_6 (dk_at dksX4_cast_6 15 rfl rfl)
theorem dX4_cast_157 : decode cX4_cast 157 = .ok (.iadd, 1) := dk_96 (dk_at dksX4_cast_6 16 rfl rfl)
theorem dX4_cast_158 : decode cX4_cast 158 = .ok (.aload_n 0, 1) := dk_42 (dk_at dksX4_cast_6 17 rfl rfl)
theorem dX4_cast_159 : decode cX4_cast 159 = .ok (.getfield 77, 3) := dk_180 0 77 (dk_at dksX4_cast_6 18 rfl rfl)
theorem dX4_cast_162 : decode cX4_cast 162 = .ok (.sipush 219, 3) := dk_17 0 219 (dk_at dksX4_cast_6 21 rfl rfl)
theorem dX4_cast_165 : decode cX4_cast 165 = .ok (.iaload, 1) := dk_46 (dk_at dksX4_cast_7 0 rfl rfl)
theorem dX4_cast_166 : decode cX4_cast 166 = .ok (.iastore, 1) := dk_79 (dk_at dksX4_cast_7 1 rfl rfl)
theorem dX4_cast_167 : decode cX4_cast 167 = .ok (.aload_n 0, 1) := dk_42 (dk_at dksX4_cast_7 2 rfl rfl)
theorem dX4_cast_168 : decode cX4_cast 168 = .ok (.getfield 77, 3) := dk_180 0 77 (dk_at dksX4_cast_7 3 rfl rfl)
theorem dX4_cast_171 : decode cX4_cast 171 = .ok (.sipush 216, 3) := dk_17 0 216 (dk_at dksX4_cast_7 6 rfl rfl)
theorem dX4_cast_174 : decode cX4_cast 174 = .ok (.dup2, 1) := dk_92 (dk_at dksX4_cast_7 9 rfl rfl)
theorem dX4_cast_175 : decode cX4_cast 175 = .ok (.iaload, 1) := dk_46 (dk_at dksX4_cast_7 10 rfl rfl)
theorem dX4_cast_176 : decode cX4_cast 176 = .ok (.iconst 1, 1) := dk_4 (dk_at dksX4_cast_7 11 rfl rfl)
theorem dX4_cast_177 : decode cX4_cast 177 = .ok (.iadd, 1) := dk_96 (dk_at dksX4_cast_7 12 rfl rfl)
theorem dX4_cast_178 : decode cX4_cast 178 = .ok (.iastore, 1) := dk_79 (dk_at dksX4_cast_7 13 rfl rfl)
theorem dX4_cast_179 : decode cX4_cast 179 = .ok (.aload_n 0, 1) := dk_42 (dk_at dksX4_cast_7 14 rfl rfl)
theorem dX4_cast_180 : decode cX4_cast 180 = .ok (.getfield 77, 3) := dk_180 0 77 (dk_at dksX4_cast_7 15 rfl rfl)
theorem dX4_cast_183 : decode cX4_cast 183 = .ok (.sipush 218, 3) := dk_17 0 218 (dk_at dksX4_cast_7 18 rfl rfl)
theorem dX4_cast_186 : decode cX4_cast 186 = .ok (.dup2, 1) := dk_92 (dk_at dksX4_cast_7 21 rfl rfl)
theorem dX4_cast_187 : decode cX4_cast 187 = .ok (.iaload, 1) := dk_46 (dk_at dksX4_cast_7 22 rfl rfl)
theorem dX4_cast_188 : decode cX4_cast 188 = .ok (.iconst 1, 1) := dk_4 (dk_at dksX4_cast_7 23 rfl rfl)
theorem dX4_cast_189 : decode cX4_cast 189 = .ok (.iload_n 3, 1) := dk_29 (dk_at dksX4_cast_8 0 rfl rfl)
theorem dX4_cast_190 : decode cX4_cast 190 = .ok (.iadd, 1) := dk_96 (dk_at dksX4_cast_8 1 rfl rfl)
theorem dX4_cast_191 : decode cX4_cast 191 = .ok (.isub, 1) := dk_100 (dk_at dksX4_cast_8 2 rfl rfl)
theorem dX4_cast_192 : decode cX4_cast 192 = .ok (.iastore, 1) := dk_79 (dk_at dksX4_cast_8 3 rfl rfl)
theorem dX4_cast_193 : decode cX4_cast 193 = .ok (.iload 4, 2) := dk_21 4 (dk_at dksX4_cast_8 4 rfl rfl)
theorem dX4_cast_195 : decode cX4_cast 195 = .ok (.ireturn, 1) := dk_172 (dk_at dksX4_cast_8 6 rfl rfl)
abbrev cX4_keepAct : ByteArray := prog_27_method_52_code
def yX4_keepAct : MethodName := ⟨RX4, "keepAct", "()V"⟩
def dkwX4_keepAct_4 : List UInt8 := [181, 1, 115, 42, 3, 181, 1, 118, 177]
abbrev dktX4_keepAct_4 : List UInt8 := dkwX4_keepAct_4 ++ []
def dkwX4_keepAct_3 : List UInt8 := [27, 96, 42, 180, 0, 77, 27, 46, 79, 132, 1, 1, 167, 255, 225, 42, 89, 180, 1, 115, 4, 96]
abbrev dktX4_keepAct_3 : List UInt8 := dkwX4_keepAct_3 ++ dktX4_keepAct_4
def dkwX4_keepAct_2 : List UInt8 := [181, 1, 115, 3, 60, 27, 17, 0, 221, 162, 0, 30, 42, 180, 0, 80, 17, 0, 221, 42, 180, 1, 115, 104]
abbrev dktX4_keepAct_2 : List UInt8 := dkwX4_keepAct_2 ++ dktX4_keepAct_3
def dkwX4_keepAct_1 : List UInt8 := [180, 0, 80, 27, 17, 0, 221, 96, 46, 79, 132, 1, 1, 167, 255, 230, 42, 89, 180, 1, 115, 4, 100]
abbrev dktX4_keepAct_1 : List UInt8 := dkwX4_keepAct_1 ++ dktX4_keepAct_2
def dkwX4_keepAct_0 : List UInt8 := [42, 180, 1, 115, 16, 40, 160, 0, 44, 3, 60, 27, 17, 34, 136, 162, 0, 25, 42, 180, 0, 80, 27, 42]
abbrev dktX4_keepAct_0 : List UInt8 := dkwX4_keepAct_0 ++ dktX4_keepAct_1
theorem dksX4_keepAct_0 : cX4_keepAct.data.toList.drop 0 = dktX4_keepAct_0 := by decide +kernel
theorem dksX4_keepAct_1 : cX4_keepAct.data.toList.drop 24 = dktX4_keepAct_1 := dk_seg dksX4_keepAct_0 24 rfl rfl
theorem dksX4_keepAct_2 : cX4_keepAct.data.toList.drop 47 = dktX4_keepAct_2 := dk_seg dksX4_keepAct_1 23 rfl rfl
theorem dksX4_keepAct_3 : cX4_keepAct.data.toList.drop 71 = dktX4_keepAct_3 := dk_seg dksX4_keepAct_2 24 rfl rfl
theorem dksX4_keepAct_4 : cX4_keepAct.data.toList.drop 93 = dktX4_keepAct_4 := dk_seg dksX4_keepAct_3 22 rfl rfl
theorem dX4_keepAct_0 : decode cX4_keepAct 0 = .ok (.aload_n 0, 1) := dk_42 (dk_at dksX4_keepAct_0 0 rfl rfl)
theorem dX4_keepAct_1 : decode cX4_keepAct 1 = .ok (.getfield 371, 3) := dk_180 1 115 (dk_at dksX4_keepAct_0 1 rfl rfl)
theorem dX4_keepAct_4 : decode cX4_keepAct 4 = .ok (.bipush 40, 2) := dk_16 40 (dk_at dksX4_keepAct_0 4 rfl rfl)
theorem dX4_keepAct_6 : decode cX4_keepAct 6 = .ok (.if_icmp .ne 44, 3) := dk_160 0 44 (dk_at dksX4_keepAct_0 6 rfl rfl)
theorem dX4_keepAct_9 : decode cX4_keepAct 9 = .ok (.iconst 0, 1) := dk_3 (dk_at dksX4_keepAct_0 9 rfl rfl)
theorem dX4_keepAct_10 : decode cX4_keepAct 10 = .ok (.istore_n 1, 1) := dk_60 (dk_at dksX4_keepAct_0 10 rfl rfl)
theorem dX4_keepAct_11 : decode cX4_keepAct 11 = .ok (.iload_n 1, 1) := dk_27 (dk_at dksX4_keepAct_0 11 rfl rfl)
theorem dX4_keepAct_12 : decode cX4_keepAct 12 = .ok (.sipush 8840, 3) := dk_17 34 136 (dk_at dksX4_keepAct_0 12 rfl rfl)
theorem dX4_keepAct_15 : decode cX4_keepAct 15 = .ok (.if_icmp .ge 25, 3) := dk_162 0 25 (dk_at dksX4_keepAct_0 15 rfl rfl)
theorem dX4_keepAct_18 : decode cX4_keepAct 18 = .ok (.aload_n 0, 1) := dk_42 (dk_at dksX4_keepAct_0 18 rfl rfl)
theorem dX4_keepAct_19 : decode cX4_keepAct 19 = .ok (.getfield 80, 3) := dk_180 0 80 (dk_at dksX4_keepAct_0 19 rfl rfl)
theorem dX4_keepAct_22 : decode cX4_keepAct 22 = .ok (.iload_n 1, 1) := dk_27 (dk_at dksX4_keepAct_0 22 rfl rfl)
theorem dX4_keepAct_23 : decode cX4_keepAct 23 = .ok (.aload_n 0, 1) := dk_42 (dk_at dksX4_keepAct_0 23 rfl rfl)
theorem dX4_keepAct_24 : decode cX4_keepAct 24 = .ok (.getfield 80, 3) := dk_180 0 80 (dk_at dksX4_keepAct_1 0 rfl rfl)
theorem dX4_keepAct_27 : decode cX4_keepAct 27 = .ok (.iload_n 1, 1) := dk_27 (dk_at dksX4_keepAct_1 3 rfl rfl)
theorem dX4_keepAct_28 : decode cX4_keepAct 28 = .ok (.sipush 221, 3) := dk_17 0 221 (dk_at dksX4_keepAct_1 4 rfl rfl)
theorem dX4_keepAct_31 : decode cX4_keepAct 31 = .ok (.iadd, 1) := dk_96 (dk_at dksX4_keepAct_1 7 rfl rfl)
theorem dX4_keepAct_32 : decode cX4_keepAct 32 = .ok (.iaload, 1) := dk_46 (dk_at dksX4_keepAct_1 8 rfl rfl)
theorem dX4_keepAct_33 : decode cX4_keepAct 33 = .ok (.iastore, 1) := dk_79 (dk_at dksX4_keepAct_1 9 rfl rfl)
theorem dX4_keepAct_34 : decode cX4_keepAct 34 = .ok (.iinc 1 1, 3) := dk_132 1 1 (dk_at dksX4_keepAct_1 10 rfl rfl)
theorem dX4_keepAct_37 : decode cX4_keepAct 37 = .ok (.goto (-26), 3) := dk_167 255 230 (dk_at dksX4_keepAct_1 13 rfl rfl)
theorem dX4_keepAct_40 : decode cX4_keepAct 40 = .ok (.aload_n 0, 1) := dk_42 (dk_at dksX4_keepAct_1 16 rfl rfl)
theorem dX4_keepAct_41 : decode cX4_keepAct 41 = .ok (.dup, 1) := dk_89 (dk_at dksX4_keepAct_1 17 rfl rfl)
theorem dX4_keepAct_42 : decode cX4_keepAct 42 = .ok (.getfield 371, 3) := dk_180 1 115 (dk_at dksX4_keepAct_1 18 rfl rfl)
theorem dX4_keepAct_45 : decode cX4_keepAct 45 = .ok (.iconst 1, 1) := dk_4 (dk_at dksX4_keepAct_1 21 rfl rfl)
theorem dX4_keepAct_46 : decode cX4_keepAct 46 = .ok (.isub, 1) := dk_100 (dk_at dksX4_keepAct_1 22 rfl rfl)
theorem dX4_keepAct_47 : decode cX4_keepAct 47 = .ok (.putfield 371, 3) := dk_181 1 115 (dk_at dksX4_keepAct_2 0 rfl rfl)
theorem dX4_keepAct_50 : decode cX4_keepAct 50 = .ok (.iconst 0, 1) := dk_3 (dk_at dksX4_keepAct_2 3 rfl rfl)
theorem dX4_keepAct_51 : decode cX4_keepAct 51 = .ok (.istore_n 1, 1) := dk_60 (dk_at dksX4_keepAct_2 4 rfl rfl)
theorem dX4_keepAct_52 : decode cX4_keepAct 52 = .ok (.iload_n 1, 1) := dk_27 (dk_at dksX4_keepAct_2 5 rfl rfl)
theorem dX4_keepAct_53 : decode cX4_keepAct 53 = .ok (.sipush 221, 3) := dk_17 0 221 (dk_at dksX4_keepAct_2 6 rfl rfl)
theorem dX4_keepAct_56 : decode cX4_keepAct 56 = .ok (.if_icmp .ge 30, 3) := dk_162 0 30 (dk_at dksX4_keepAct_2 9 rfl rfl)
theorem dX4_keepAct_59 : decode cX4_keepAct 59 = .ok (.aload_n 0, 1) := dk_42 (dk_at dksX4_keepAct_2 12 rfl rfl)
theorem dX4_keepAct_60 : decode cX4_keepAct 60 = .ok (.getfield 80, 3) := dk_180 0 80 (dk_at dksX4_keepAct_2 13 rfl rfl)
theorem dX4_keepAct_63 : decode cX4_keepAct 63 = .ok (.sipush 221, 3) := dk_17 0 221 (dk_at dksX4_keepAct_2 16 rfl rfl)
theorem dX4_keepAct_66 : decode cX4_keepAct 66 = .ok (.aload_n 0, 1) := dk_42 (dk_at dksX4_keepAct_2 19 rfl rfl)
theorem dX4_keepAct_67 : decode cX4_keepAct 67 = .ok (.getfield 371, 3) := dk_180 1 115 (dk_at dksX4_keepAct_2 20 rfl rfl)
theorem dX4_keepAct_70 : decode cX4_keepAct 70 = .ok (.imul, 1) := dk_104 (dk_at dksX4_keepAct_2 23 rfl rfl)
theorem dX4_keepAct_71 : decode cX4_keepAct 71 = .ok (.iload_n 1, 1) := dk_27 (dk_at dksX4_keepAct_3 0 rfl rfl)
theorem dX4_keepAct_72 : decode cX4_keepAct 72 = .ok (.iadd, 1) := dk_96 (dk_at dksX4_keepAct_3 1 rfl rfl)
theorem dX4_keepAct_73 : decode cX4_keepAct 73 = .ok (.aload_n 0, 1) := dk_42 (dk_at dksX4_keepAct_3 2 rfl rfl)
theorem dX4_keepAct_74 : decode cX4_keepAct 74 = .ok (.getfield 77, 3) := dk_180 0 77 (dk_at dksX4_keepAct_3 3 rfl rfl)
theorem dX4_keepAct_77 : decode cX4_keepAct 77 = .ok (.iload_n 1, 1) := dk_27 (dk_at dksX4_keepAct_3 6 rfl rfl)
theorem dX4_keepAct_78 : decode cX4_keepAct 78 = .ok (.iaload, 1) := dk_46 (dk_at dksX4_keepAct_3 7 rfl rfl)
theorem dX4_keepAct_79 : decode cX4_keepAct 79 = .ok (.iastore, 1) := dk_79 (dk_at dksX4_keepAct_3 8 rfl rfl)
theorem dX4_keepAct_80 : decode cX4_keepAct 80 = .ok (.iinc 1 1, 3) := dk_132 1 1 (dk_at dksX4_keepAct_3 9 rfl rfl)
theorem dX4_keepAct_83 : decode cX4_keepAct 83 = .ok (.goto (-31), 3) := dk_167 255 225 (dk_at dksX4_keepAct_3 12 rfl rfl)
theorem dX4_keepAct_86 : decode cX4_keepAct 86 = .ok (.aload_n 0, 1) := dk_42 (dk_at dksX4_keepAct_3 15 rfl rfl)
theorem dX4_keepAct_87 : decode cX4_keepAct 87 = .ok (.dup, 1) := dk_89 (dk_at dksX4_keepAct_3 16 rfl rfl)
theorem dX4_keepAct_88 : decode cX4_keepAct 88 = .ok (.getfield 371, 3) := dk_180 1 115 (dk_at dksX4_keepAct_3 17 rfl rfl)
theorem dX4_keepAct_91 : decode cX4_keepAct 91 = .ok (.iconst 1, 1) := dk_4 (dk_at dksX4_keepAct_3 20 rfl rfl)
theorem dX4_keepAct_92 : decode cX4_keepAct 92 = .ok (.iadd, 1) := dk_96 (dk_at dksX4_keepAct_3 21 rfl rfl)
theorem dX4_keepAct_93 : decode cX4_keepAct 93 = .ok (.putfield 371, 3) := dk_181 1 115 (dk_at dksX4_keepAct_4 0 rfl rfl)
theorem dX4_keepAct_96 : decode cX4_keepAct 96 = .ok (.aload_n 0, 1) := dk_42 (dk_at dksX4_keepAct_4 3 rfl rfl)
theorem dX4_keepAct_97 : decode cX4_keepAct 97 = .ok (.iconst 0, 1) := dk_3 (dk_at dksX4_keepAct_4 4 rfl rfl)
theorem dX4_keepAct_98 : decode cX4_keepAct 98 = .ok (.putfield 374, 3) := dk_181 1 118 (dk_at dksX4_keepAct_4 5 rfl rfl)
theorem dX4_keepAct_101 : decode cX4_keepAct 101 = .ok (.return_, 1) := dk_177 (dk_at dksX4_keepAct_4 8 rfl rfl)
abbrev cX4_rowOf : ByteArray := prog_27_method_42_code
def yX4_rowOf : MethodName := ⟨RX4, "rowOf", "(I)I"⟩
def dkwX4_rowOf_0 : List UInt8 := [42, 180, 0, 77, 7, 27, 104, 46, 172]
abbrev dktX4_rowOf_0 : List UInt8 := dkwX4_rowOf_0 ++ []
theorem dksX4_rowOf_0 : cX4_rowOf.data.toList.drop 0 = dktX4_rowOf_0 := by decide +kernel
theorem dX4_rowOf_0 : decode cX4_rowOf 0 = .ok (.aload_n 0, 1) := dk_42 (dk_at dksX4_rowOf_0 0 rfl rfl)
theorem dX4_rowOf_1 : decode cX4_rowOf 1 = .ok (.getfield 77, 3) := dk_180 0 77 (dk_at dksX4_rowOf_0 1 rfl rfl)
theorem dX4_rowOf_4 : decode cX4_rowOf 4 = .ok (.iconst 4, 1) := dk_7 (dk_at dksX4_rowOf_0 4 rfl rfl)
theorem dX4_rowOf_5 : decode cX4_rowOf 5 = .ok (.iload_n 1, 1) := dk_27 (dk_at dksX4_rowOf_0 5 rfl rfl)
theorem dX4_rowOf_6 : decode cX4_rowOf 6 = .ok (.imul, 1) := dk_104 (dk_at dksX4_rowOf_0 6 rfl rfl)
theorem dX4_rowOf_7 : decode cX4_rowOf 7 = .ok (.iaload, 1) := dk_46 (dk_at dksX4_rowOf_0 7 rfl rfl)
theorem dX4_rowOf_8 : decode cX4_rowOf 8 = .ok (.ireturn, 1) := dk_172 (dk_at dksX4_rowOf_0 8 rfl rfl)
abbrev cX4_print : ByteArray := prog_27_method_55_code
def yX4_print : MethodName := ⟨RX4, "print", "(I)I"⟩
def dkwX4_print_5 : List UInt8 := [180, 0, 77, 17, 0, 218, 92, 46, 4, 100, 79, 28, 172]
abbrev dktX4_print_5 : List UInt8 := dkwX4_print_5 ++ []
def dkwX4_print_4 : List UInt8 := [96, 42, 180, 0, 77, 17, 0, 219, 46, 79, 42, 180, 0, 77, 17, 0, 217, 92, 46, 4, 96, 79, 42]
abbrev dktX4_print_4 : List UInt8 := dkwX4_print_4 ++ dktX4_print_5
def dkwX4_print_3 : List UInt8 := [180, 0, 77, 16, 96, 6, 28, 104, 96, 4, 96, 27, 79, 42, 180, 0, 77, 16, 96, 6, 28, 104, 96, 5]
abbrev dktX4_print_3 : List UInt8 := dkwX4_print_3 ++ dktX4_print_4
def dkwX4_print_2 : List UInt8 := [61, 42, 180, 0, 77, 16, 96, 6, 28, 104, 96, 42, 42, 27, 182, 1, 136, 182, 1, 93, 79, 42]
abbrev dktX4_print_2 : List UInt8 := dkwX4_print_2 ++ dktX4_print_3
def dkwX4_print_1 : List UInt8 := [180, 0, 77, 17, 0, 218, 46, 154, 0, 5, 2, 172, 42, 182, 1, 133, 42, 180, 0, 77, 17, 0, 217, 46]
abbrev dktX4_print_1 : List UInt8 := dkwX4_print_1 ++ dktX4_print_2
def dkwX4_print_0 : List UInt8 := [42, 27, 182, 1, 127, 153, 0, 27, 42, 180, 0, 77, 17, 0, 217, 46, 16, 40, 159, 0, 14, 42]
abbrev dktX4_print_0 : List UInt8 := dkwX4_print_0 ++ dktX4_print_1
theorem dksX4_print_0 : cX4_print.data.toList.drop 0 = dktX4_print_0 := by decide +kernel
theorem dksX4_print_1 : cX4_print.data.toList.drop 22 = dktX4_print_1 := dk_seg dksX4_print_0 22 rfl rfl
theorem dksX4_print_2 : cX4_print.data.toList.drop 46 = dktX4_print_2 := dk_seg dksX4_print_1 24 rfl rfl
theorem dksX4_print_3 : cX4_print.data.toList.drop 68 = dktX4_print_3 := dk_seg dksX4_print_2 22 rfl rfl
theorem dksX4_print_4 : cX4_print.data.toList.drop 92 = dktX4_print_4 := dk_seg dksX4_print_3 24 rfl rfl
theorem dksX4_print_5 : cX4_print.data.toList.drop 115 = dktX4_print_5 := dk_seg dksX4_print_4 23 rfl rfl
theorem dX4_print_0 : decode cX4_print 0 = .ok (.aload_n 0, 1) := dk_42 (dk_at dksX4_print_0 0 rfl rfl)
theorem dX4_print_1 : decode cX4_print 1 = .ok (.iload_n 1, 1) := dk_27 (dk_at dksX4_print_0 1 rfl rfl)
theorem dX4_print_2 : decode cX4_print 2 = .ok (.invokevirtual 383, 3) := dk_182 1 127 (dk_at dksX4_print_0 2 rfl rfl)
theorem dX4_print_5 : decode cX4_print 5 = .ok (.ifCond .eq 27, 3) := dk_153 0 27 (dk_at dksX4_print_0 5 rfl rfl)
theorem dX4_print_8 : decode cX4_print 8 = .ok (.aload_n 0, 1) := dk_42 (dk_at dksX4_print_0 8 rfl rfl)
theorem dX4_print_9 : decode cX4_print 9 = .ok (.getfield 77, 3) := dk_180 0 77 (dk_at dksX4_print_0 9 rfl rfl)
theorem dX4_print_12 : decode cX4_print 12 = .ok (.sipush 217, 3) := dk_17 0 217 (dk_at dksX4_print_0 12 rfl rfl)
theorem dX4_print_15 : decode cX4_print 15 = .ok (.iaload, 1) := dk_46 (dk_at dksX4_print_0 15 rfl rfl)
theorem dX4_print_16 : decode cX4_print 16 = .ok (.bipush 40, 2) := dk_16 40 (dk_at dksX4_print_0 16 rfl rfl)
theorem dX4_print_18 : decode cX4_print 18 = .ok (.if_icmp .eq 14, 3) := dk_159 0 14 (dk_at dksX4_print_0 18 rfl rfl)
theorem dX4_print_21 : decode cX4_print 21 = .ok (.aload_n 0, 1) := dk_42 (dk_at dksX4_print_0 21 rfl rfl)
theorem dX4_print_22 : decode cX4_print 22 = .ok (.getfield 77, 3) := dk_180 0 77 (dk_at dksX4_print_1 0 rfl rfl)
theorem dX4_print_25 : decode cX4_print 25 = .ok (.sipush 218, 3) := dk_17 0 218 (dk_at dksX4_print_1 3 rfl rfl)
theorem dX4_print_28 : decode cX4_print 28 = .ok (.iaload, 1) := dk_46 (dk_at dksX4_print_1 6 rfl rfl)
theorem dX4_print_29 : decode cX4_print 29 = .ok (.ifCond .ne 5, 3) := dk_154 0 5 (dk_at dksX4_print_1 7 rfl rfl)
theorem dX4_print_32 : decode cX4_print 32 = .ok (.iconst (-1), 1) := dk_2 (dk_at dksX4_print_1 10 rfl rfl)
theorem dX4_print_33 : decode cX4_print 33 = .ok (.ireturn, 1) := dk_172 (dk_at dksX4_print_1 11 rfl rfl)
theorem dX4_print_34 : decode cX4_print 34 = .ok (.aload_n 0, 1) := dk_42 (dk_at dksX4_print_1 12 rfl rfl)
theorem dX4_print_35 : decode cX4_print 35 = .ok (.invokevirtual 389, 3) := dk_182 1 133 (dk_at dksX4_print_1 13 rfl rfl)
theorem dX4_print_38 : decode cX4_print 38 = .ok (.aload_n 0, 1) := dk_42 (dk_at dksX4_print_1 16 rfl rfl)
theorem dX4_print_39 : decode cX4_print 39 = .ok (.getfield 77, 3) := dk_180 0 77 (dk_at dksX4_print_1 17 rfl rfl)
theorem dX4_print_42 : decode cX4_print 42 = .ok (.sipush 217, 3) := dk_17 0 217 (dk_at dksX4_print_1 20 rfl rfl)
theorem dX4_print_45 : decode cX4_print 45 = .ok (.iaload, 1) := dk_46 (dk_at dksX4_print_1 23 rfl rfl)
theorem dX4_print_46 : decode cX4_print 46 = .ok (.istore_n 2, 1) := dk_61 (dk_at dksX4_print_2 0 rfl rfl)
theorem dX4_print_47 : decode cX4_print 47 = .ok (.aload_n 0, 1) := dk_42 (dk_at dksX4_print_2 1 rfl rfl)
theorem dX4_print_48 : decode cX4_print 48 = .ok (.getfield 77, 3) := dk_180 0 77 (dk_at dksX4_print_2 2 rfl rfl)
theorem dX4_print_51 : decode cX4_print 51 = .ok (.bipush 96, 2) := dk_16 96 (dk_at dksX4_print_2 5 rfl rfl)
theorem dX4_print_53 : decode cX4_print 53 = .ok (.iconst 3, 1) := dk_6 (dk_at dksX4_print_2 7 rfl rfl)
theorem dX4_print_54 : decode cX4_print 54 = .ok (.iload_n 2, 1) := dk_28 (dk_at dksX4_print_2 8 rfl rfl)
theorem dX4_print_55 : decode cX4_print 55 = .ok (.imul, 1) := dk_104 (dk_at dksX4_print_2 9 rfl rfl)
theorem dX4_print_56 : decode cX4_print 56 = .ok (.iadd, 1) := dk_96 (dk_at dksX4_print_2 10 rfl rfl)
theorem dX4_print_57 : decode cX4_print 57 = .ok (.aload_n 0, 1) := dk_42 (dk_at dksX4_print_2 11 rfl rfl)
theorem dX4_print_58 : decode cX4_print 58 = .ok (.aload_n 0, 1) := dk_42 (dk_at dksX4_print_2 12 rfl rfl)
theorem dX4_print_59 : decode cX4_print 59 = .ok (.iload_n 1, 1) := dk_27 (dk_at dksX4_print_2 13 rfl rfl)
theorem dX4_print_60 : decode cX4_print 60 = .ok (.invokevirtual 392, 3) := dk_182 1 136 (dk_at dksX4_print_2 14 rfl rfl)
theorem dX4_print_63 : decode cX4_print 63 = .ok (.invokevirtual 349, 3) := dk_182 1 93 (dk_at dksX4_print_2 17 rfl rfl)
theorem dX4_print_66 : decode cX4_print 66 = .ok (.iastore, 1) := dk_79 (dk_at dksX4_print_2 20 rfl rfl)
theorem dX4_print_67 : decode cX4_print 67 = .ok (.aload_n 0, 1) := dk_42 (dk_at dksX4_print_2 21 rfl rfl)
theorem dX4_print_68 : decode cX4_print 68 = .ok (.getfield 77, 3) := dk_180 0 77 (dk_at dksX4_print_3 0 rfl rfl)
theorem dX4_print_71 : decode cX4_print 71 = .ok (.bipush 96, 2) := dk_16 96 (dk_at dksX4_print_3 3 rfl rfl)
theorem dX4_print_73 : decode cX4_print 73 = .ok (.iconst 3, 1) := dk_6 (dk_at dksX4_print_3 5 rfl rfl)
theorem dX4_print_74 : decode cX4_print 74 = .ok (.iload_n 2, 1) := dk_28 (dk_at dksX4_print_3 6 rfl rfl)
theorem dX4_print_75 : decode cX4_print 75 = .ok (.imul, 1) := dk_104 (dk_at dksX4_print_3 7 rfl rfl)
theorem dX4_print_76 : decode cX4_print 76 = .ok (.iadd, 1) := dk_96 (dk_at dksX4_print_3 8 rfl rfl)
theorem dX4_print_77 : decode cX4_print 77 = .ok (.iconst 1, 1) := dk_4 (dk_at dksX4_print_3 9 rfl rfl)
theorem dX4_print_78 : decode cX4_print 78 = .ok (.iadd, 1) := dk_96 (dk_at dksX4_print_3 10 rfl rfl)
theorem dX4_print_79 : decode cX4_print 79 = .ok (.iload_n 1, 1) := dk_27 (dk_at dksX4_print_3 11 rfl rfl)
theorem dX4_print_80 : decode cX4_print 80 = .ok (.iastore, 1) := dk_79 (dk_at dksX4_print_3 12 rfl rfl)
theorem dX4_print_81 : decode cX4_print 81 = .ok (.aload_n 0, 1) := dk_42 (dk_at dksX4_print_3 13 rfl rfl)
theorem dX4_print_82 : decode cX4_print 82 = .ok (.getfield 77, 3) := dk_180 0 77 (dk_at dksX4_print_3 14 rfl rfl)
theorem dX4_print_85 : decode cX4_print 85 = .ok (.bipush 96, 2) := dk_16 96 (dk_at dksX4_print_3 17 rfl rfl)
theorem dX4_print_87 : decode cX4_print 87 = .ok (.iconst 3, 1) := dk_6 (dk_at dksX4_print_3 19 rfl rfl)
theorem dX4_print_88 : decode cX4_print 88 = .ok (.iload_n 2, 1) := dk_28 (dk_at dksX4_print_3 20 rfl rfl)
theorem dX4_print_89 : decode cX4_print 89 = .ok (.imul, 1) := dk_104 (dk_at dksX4_print_3 21 rfl rfl)
theorem dX4_print_90 : decode cX4_print 90 = .ok (.iadd, 1) := dk_96 (dk_at dksX4_print_3 22 rfl rfl)
theorem dX4_print_91 : decode cX4_print 91 = .ok (.iconst 2, 1) := dk_5 (dk_at dksX4_print_3 23 rfl rfl)
theorem dX4_print_92 : decode cX4_print 92 = .ok (.iadd, 1) := dk_96 (dk_at dksX4_print_4 0 rfl rfl)
theorem dX4_print_93 : decode cX4_print 93 = .ok (.aload_n 0, 1) := dk_42 (dk_at dksX4_print_4 1 rfl rfl)
theorem dX4_print_94 : decode cX4_print 94 = .ok (.getfield 77, 3) := dk_180 0 77 (dk_at dksX4_print_4 2 rfl rfl)
theorem dX4_print_97 : decode cX4_print 97 = .ok (.sipush 219, 3) := dk_17 0 219 (dk_at dksX4_print_4 5 rfl rfl)
theorem dX4_print_100 : decode cX4_print 100 = .ok (.iaload, 1) := dk_46 (dk_at dksX4_print_4 8 rfl rfl)
theorem dX4_print_101 : decode cX4_print 101 = .ok (.iastore, 1) := dk_79 (dk_at dksX4_print_4 9 rfl rfl)
theorem dX4_print_102 : decode cX4_print 102 = .ok (.aload_n 0, 1) := dk_42 (dk_at dksX4_print_4 10 rfl rfl)
theorem dX4_print_103 : decode cX4_print 103 = .ok (.getfield 77, 3) := dk_180 0 77 (dk_at dksX4_print_4 11 rfl rfl)
theorem dX4_print_106 : decode cX4_print 106 = .ok (.sipush 217, 3) := dk_17 0 217 (dk_at dksX4_print_4 14 rfl rfl)
theorem dX4_print_109 : decode cX4_print 109 = .ok (.dup2, 1) := dk_92 (dk_at dksX4_print_4 17 rfl rfl)
theorem dX4_print_110 : decode cX4_print 110 = .ok (.iaload, 1) := dk_46 (dk_at dksX4_print_4 18 rfl rfl)
theorem dX4_print_111 : decode cX4_print 111 = .ok (.iconst 1, 1) := dk_4 (dk_at dksX4_print_4 19 rfl rfl)
theorem dX4_print_112 : decode cX4_print 112 = .ok (.iadd, 1) := dk_96 (dk_at dksX4_print_4 20 rfl rfl)
theorem dX4_print_113 : decode cX4_print 113 = .ok (.iastore, 1) := dk_79 (dk_at dksX4_print_4 21 rfl rfl)
theorem dX4_print_114 : decode cX4_print 114 = .ok (.aload_n 0, 1) := dk_42 (dk_at dksX4_print_4 22 rfl rfl)
theorem dX4_print_115 : decode cX4_print 115 = .ok (.getfield 77, 3) := dk_180 0 77 (dk_at dksX4_print_5 0 rfl rfl)
theorem dX4_print_118 : decode cX4_print 118 = .ok (.sipush 218, 3) := dk_17 0 218 (dk_at dksX4_print_5 3 rfl rfl)
theorem dX4_print_121 : decode cX4_print 121 = .ok (.dup2, 1) := dk_92 (dk_at dksX4_print_5 6 rfl rfl)
theorem dX4_print_122 : decode cX4_print 122 = .ok (.iaload, 1) := dk_46 (dk_at dksX4_print_5 7 rfl rfl)
theorem dX4_print_123 : decode cX4_print 123 = .ok (.iconst 1, 1) := dk_4 (dk_at dksX4_print_5 8 rfl rfl)
theorem dX4_print_124 : decode cX4_print 124 = .ok (.isub, 1) := dk_100 (dk_at dksX4_print_5 9 rfl rfl)
theorem dX4_print_125 : decode cX4_print 125 = .ok (.iastore, 1) := dk_79 (dk_at dksX4_print_5 10 rfl rfl)
theorem dX4_print_126 : decode cX4_print 126 = .ok (.iload_n 2, 1) := dk_28 (dk_at dksX4_print_5 11 rfl rfl)
theorem dX4_print_127 : decode cX4_print 127 = .ok (.ireturn, 1) := dk_172 (dk_at dksX4_print_5 12 rfl rfl)
abbrev cX4_crack : ByteArray := prog_27_method_56_code
def yX4_crack : MethodName := ⟨RX4, "crack", "(II)Z"⟩
def dkwX4_crack_2 : List UInt8 := [46, 4, 28, 120, 100, 79, 4, 172]
abbrev dktX4_crack_2 : List UInt8 := dkwX4_crack_2 ++ []
def dkwX4_crack_1 : List UInt8 := [182, 1, 136, 28, 122, 4, 126, 154, 0, 5, 3, 172, 42, 182, 1, 133, 42, 180, 0, 77, 7, 27, 104, 92]
abbrev dktX4_crack_1 : List UInt8 := dkwX4_crack_1 ++ dktX4_crack_2
def dkwX4_crack_0 : List UInt8 := [42, 27, 182, 1, 127, 153, 0, 29, 28, 3, 42, 182, 1, 86, 4, 100, 184, 1, 89, 153, 0, 15, 42, 27]
abbrev dktX4_crack_0 : List UInt8 := dkwX4_crack_0 ++ dktX4_crack_1
theorem dksX4_crack_0 : cX4_crack.data.toList.drop 0 = dktX4_crack_0 := by decide +kernel
theorem dksX4_crack_1 : cX4_crack.data.toList.drop 24 = dktX4_crack_1 := dk_seg dksX4_crack_0 24 rfl rfl
theorem dksX4_crack_2 : cX4_crack.data.toList.drop 48 = dktX4_crack_2 := dk_seg dksX4_crack_1 24 rfl rfl
theorem dX4_crack_0 : decode cX4_crack 0 = .ok (.aload_n 0, 1) := dk_42 (dk_at dksX4_crack_0 0 rfl rfl)
theorem dX4_crack_1 : decode cX4_crack 1 = .ok (.iload_n 1, 1) := dk_27 (dk_at dksX4_crack_0 1 rfl rfl)
theorem dX4_crack_2 : decode cX4_crack 2 = .ok (.invokevirtual 383, 3) := dk_182 1 127 (dk_at dksX4_crack_0 2 rfl rfl)
theorem dX4_crack_5 : decode cX4_crack 5 = .ok (.ifCond .eq 29, 3) := dk_153 0 29 (dk_at dksX4_crack_0 5 rfl rfl)
theorem dX4_crack_8 : decode cX4_crack 8 = .ok (.iload_n 2, 1) := dk_28 (dk_at dksX4_crack_0 8 rfl rfl)
theorem dX4_crack_9 : decode cX4_crack 9 = .ok (.iconst 0, 1) := dk_3 (dk_at dksX4_crack_0 9 rfl rfl)
theorem dX4_crack_10 : decode cX4_crack 10 = .ok (.aload_n 0, 1) := dk_42 (dk_at dksX4_crack_0 10 rfl rfl)
theorem dX4_crack_11 : decode cX4_crack 11 = .ok (.invokevirtual 342, 3) := dk_182 1 86 (dk_at dksX4_crack_0 11 rfl rfl)
theorem dX4_crack_14 : decode cX4_crack 14 = .ok (.iconst 1, 1) := dk_4 (dk_at dksX4_crack_0 14 rfl rfl)
theorem dX4_crack_15 : decode cX4_crack 15 = .ok (.isub, 1) := dk_100 (dk_at dksX4_crack_0 15 rfl rfl)
theorem dX4_crack_16 : decode cX4_crack 16 = .ok (.invokestatic 345, 3) := dk_184 1 89 (dk_at dksX4_crack_0 16 rfl rfl)
theorem dX4_crack_19 : decode cX4_crack 19 = .ok (.ifCond .eq 15, 3) := dk_153 0 15 (dk_at dksX4_crack_0 19 rfl rfl)
theorem dX4_crack_22 : decode cX4_crack 22 = .ok (.aload_n 0, 1) := dk_42 (dk_at dksX4_crack_0 22 rfl rfl)
theorem dX4_crack_23 : decode cX4_crack 23 = .ok (.iload_n 1, 1) := dk_27 (dk_at dksX4_crack_0 23 rfl rfl)
theorem dX4_crack_24 : decode cX4_crack 24 = .ok (.invokevirtual 392, 3) := dk_182 1 136 (dk_at dksX4_crack_1 0 rfl rfl)
theorem dX4_crack_27 : decode cX4_crack 27 = .ok (.iload_n 2, 1) := dk_28 (dk_at dksX4_crack_1 3 rfl rfl)
theorem dX4_crack_28 : decode cX4_crack 28 = .ok (.ishr, 1) := dk_122 (dk_at dksX4_crack_1 4 rfl rfl)
theorem dX4_crack_29 : decode cX4_crack 29 = .ok (.iconst 1, 1) := dk_4 (dk_at dksX4_crack_1 5 rfl rfl)
theorem dX4_crack_30 : decode cX4_crack 30 = .ok (.iand, 1) := dk_126 (dk_at dksX4_crack_1 6 rfl rfl)
theorem dX4_crack_31 : decode cX4_crack 31 = .ok (.ifCond .ne 5, 3) := dk_154 0 5 (dk_at dksX4_crack_1 7 rfl rfl)
theorem dX4_crack_34 : decode cX4_crack 34 = .ok (.iconst 0, 1) := dk_3 (dk_at dksX4_crack_1 10 rfl rfl)
theorem dX4_crack_35 : decode cX4_crack 35 = .ok (.ireturn, 1) := dk_172 (dk_at dksX4_crack_1 11 rfl rfl)
theorem dX4_crack_36 : decode cX4_crack 36 = .ok (.aload_n 0, 1) := dk_42 (dk_at dksX4_crack_1 12 rfl rfl)
theorem dX4_crack_37 : decode cX4_crack 37 = .ok (.invokevirtual 389, 3) := dk_182 1 133 (dk_at dksX4_crack_1 13 rfl rfl)
theorem dX4_crack_40 : decode cX4_crack 40 = .ok (.aload_n 0, 1) := dk_42 (dk_at dksX4_crack_1 16 rfl rfl)
theorem dX4_crack_41 : decode cX4_crack 41 = .ok (.getfield 77, 3) := dk_180 0 77 (dk_at dksX4_crack_1 17 rfl rfl)
theorem dX4_crack_44 : decode cX4_crack 44 = .ok (.iconst 4, 1) := dk_7 (dk_at dksX4_crack_1 20 rfl rfl)
theorem dX4_crack_45 : decode cX4_crack 45 = .ok (.iload_n 1, 1) := dk_27 (dk_at dksX4_crack_1 21 rfl rfl)
theorem dX4_crack_46 : decode cX4_crack 46 = .ok (.imul, 1) := dk_104 (dk_at dksX4_crack_1 22 rfl rfl)
theorem dX4_crack_47 : decode cX4_crack 47 = .ok (.dup2, 1) := dk_92 (dk_at dksX4_crack_1 23 rfl rfl)
theorem dX4_crack_48 : decode cX4_crack 48 = .ok (.iaload, 1) := dk_46 (dk_at dksX4_crack_2 0 rfl rfl)
theorem dX4_crack_49 : decode cX4_crack 49 = .ok (.iconst 1, 1) := dk_4 (dk_at dksX4_crack_2 1 rfl rfl)
theorem dX4_crack_50 : decode cX4_crack 50 = .ok (.iload_n 2, 1) := dk_28 (dk_at dksX4_crack_2 2 rfl rfl)
theorem dX4_crack_51 : decode cX4_crack 51 = .ok (.ishl, 1) := dk_120 (dk_at dksX4_crack_2 3 rfl rfl)
theorem dX4_crack_52 : decode cX4_crack 52 = .ok (.isub, 1) := dk_100 (dk_at dksX4_crack_2 4 rfl rfl)
theorem dX4_crack_53 : decode cX4_crack 53 = .ok (.iastore, 1) := dk_79 (dk_at dksX4_crack_2 5 rfl rfl)
theorem dX4_crack_54 : decode cX4_crack 54 = .ok (.iconst 1, 1) := dk_4 (dk_at dksX4_crack_2 6 rfl rfl)
theorem dX4_crack_55 : decode cX4_crack 55 = .ok (.ireturn, 1) := dk_172 (dk_at dksX4_crack_2 7 rfl rfl)
abbrev cX4_year : ByteArray := prog_27_method_57_code
def yX4_year : MethodName := ⟨RX4, "year", "()I"⟩
def dkwX4_year_1 : List UInt8 := [17, 0, 219, 92, 46, 4, 96, 79, 42, 180, 0, 77, 17, 0, 219, 46, 172]
abbrev dktX4_year_1 : List UInt8 := dkwX4_year_1 ++ []
def dkwX4_year_0 : List UInt8 := [42, 180, 0, 77, 17, 0, 219, 46, 17, 3, 231, 160, 0, 5, 2, 172, 42, 182, 1, 133, 42, 180, 0, 77]
abbrev dktX4_year_0 : List UInt8 := dkwX4_year_0 ++ dktX4_year_1
theorem dksX4_year_0 : cX4_year.data.toList.drop 0 = dktX4_year_0 := by decide +kernel
theorem dksX4_year_1 : cX4_year.data.toList.drop 24 = dktX4_year_1 := dk_seg dksX4_year_0 24 rfl rfl
theorem dX4_year_0 : decode cX4_year 0 = .ok (.aload_n 0, 1) := dk_42 (dk_at dksX4_year_0 0 rfl rfl)
theorem dX4_year_1 : decode cX4_year 1 = .ok (.getfield 77, 3) := dk_180 0 77 (dk_at dksX4_year_0 1 rfl rfl)
theorem dX4_year_4 : decode cX4_year 4 = .ok (.sipush 219, 3) := dk_17 0 219 (dk_at dksX4_year_0 4 rfl rfl)
theorem dX4_year_7 : decode cX4_year 7 = .ok (.iaload, 1) := dk_46 (dk_at dksX4_year_0 7 rfl rfl)
theorem dX4_year_8 : decode cX4_year 8 = .ok (.sipush 999, 3) := dk_17 3 231 (dk_at dksX4_year_0 8 rfl rfl)
theorem dX4_year_11 : decode cX4_year 11 = .ok (.if_icmp .ne 5, 3) := dk_160 0 5 (dk_at dksX4_year_0 11 rfl rfl)
theorem dX4_year_14 : decode cX4_year 14 = .ok (.iconst (-1), 1) := dk_2 (dk_at dksX4_year_0 14 rfl rfl)
theorem dX4_year_15 : decode cX4_year 15 = .ok (.ireturn, 1) := dk_172 (dk_at dksX4_year_0 15 rfl rfl)
theorem dX4_year_16 : decode cX4_year 16 = .ok (.aload_n 0, 1) := dk_42 (dk_at dksX4_year_0 16 rfl rfl)
theorem dX4_year_17 : decode cX4_year 17 = .ok (.invokevirtual 389, 3) := dk_182 1 133 (dk_at dksX4_year_0 17 rfl rfl)
theorem dX4_year_20 : decode cX4_year 20 = .ok (.aload_n 0, 1) := dk_42 (dk_at dksX4_year_0 20 rfl rfl)
theorem dX4_year_21 : decode cX4_year 21 = .ok (.getfield 77, 3) := dk_180 0 77 (dk_at dksX4_year_0 21 rfl rfl)
theorem dX4_year_24 : decode cX4_year 24 = .ok (.sipush 219, 3) := dk_17 0 219 (dk_at dksX4_year_1 0 rfl rfl)
theorem dX4_year_27 : decode cX4_year 27 = .ok (.dup2, 1) := dk_92 (dk_at dksX4_year_1 3 rfl rfl)
theorem dX4_year_28 : decode cX4_year 28 = .ok (.iaload, 1) := dk_46 (dk_at dksX4_year_1 4 rfl rfl)
theorem dX4_year_29 : decode cX4_year 29 = .ok (.iconst 1, 1) := dk_4 (dk_at dksX4_year_1 5 rfl rfl)
theorem dX4_year_30 : decode cX4_year 30 = .ok (.iadd, 1) := dk_96 (dk_at dksX4_year_1 6 rfl rfl)
theorem dX4_year_31 : decode cX4_year 31 = .ok (.iastore, 1) := dk_79 (dk_at dksX4_year_1 7 rfl rfl)
theorem dX4_year_32 : decode cX4_year 32 = .ok (.aload_n 0, 1) := dk_42 (dk_at dksX4_year_1 8 rfl rfl)
theorem dX4_year_33 : decode cX4_year 33 = .ok (.getfield 77, 3) := dk_180 0 77 (dk_at dksX4_year_1 9 rfl rfl)
theorem dX4_year_36 : decode cX4_year 36 = .ok (.sipush 219, 3) := dk_17 0 219 (dk_at dksX4_year_1 12 rfl rfl)
theorem dX4_year_39 : decode cX4_year 39 = .ok (.iaload, 1) := dk_46 (dk_at dksX4_year_1 15 rfl rfl)
theorem dX4_year_40 : decode cX4_year 40 = .ok (.ireturn, 1) := dk_172 (dk_at dksX4_year_1 16 rfl rfl)
abbrev cX4_undo : ByteArray := prog_27_method_58_code
def yX4_undo : MethodName := ⟨RX4, "undo", "()Z"⟩
def dkwX4_undo_1 : List UInt8 := [4, 96, 181, 1, 118, 42, 182, 1, 139, 4, 172]
abbrev dktX4_undo_1 : List UInt8 := dkwX4_undo_1 ++ []
def dkwX4_undo_0 : List UInt8 := [42, 180, 1, 115, 154, 0, 5, 3, 172, 42, 89, 180, 1, 115, 4, 100, 181, 1, 115, 42, 89, 180, 1, 118]
abbrev dktX4_undo_0 : List UInt8 := dkwX4_undo_0 ++ dktX4_undo_1
theorem dksX4_undo_0 : cX4_undo.data.toList.drop 0 = dktX4_undo_0 := by decide +kernel
theorem dksX4_undo_1 : cX4_undo.data.toList.drop 24 = dktX4_undo_1 := dk_seg dksX4_undo_0 24 rfl rfl
theorem dX4_undo_0 : decode cX4_undo 0 = .ok (.aload_n 0, 1) := dk_42 (dk_at dksX4_undo_0 0 rfl rfl)
theorem dX4_undo_1 : decode cX4_undo 1 = .ok (.getfield 371, 3) := dk_180 1 115 (dk_at dksX4_undo_0 1 rfl rfl)
theorem dX4_undo_4 : decode cX4_undo 4 = .ok (.ifCond .ne 5, 3) := dk_154 0 5 (dk_at dksX4_undo_0 4 rfl rfl)
theorem dX4_undo_7 : decode cX4_undo 7 = .ok (.iconst 0, 1) := dk_3 (dk_at dksX4_undo_0 7 rfl rfl)
theorem dX4_undo_8 : decode cX4_undo 8 = .ok (.ireturn, 1) := dk_172 (dk_at dksX4_undo_0 8 rfl rfl)
theorem dX4_undo_9 : decode cX4_undo 9 = .ok (.aload_n 0, 1) := dk_42 (dk_at dksX4_undo_0 9 rfl rfl)
theorem dX4_undo_10 : decode cX4_undo 10 = .ok (.dup, 1) := dk_89 (dk_at dksX4_undo_0 10 rfl rfl)
theorem dX4_undo_11 : decode cX4_undo 11 = .ok (.getfield 371, 3) := dk_180 1 115 (dk_at dksX4_undo_0 11 rfl rfl)
theorem dX4_undo_14 : decode cX4_undo 14 = .ok (.iconst 1, 1) := dk_4 (dk_at dksX4_undo_0 14 rfl rfl)
theorem dX4_undo_15 : decode cX4_undo 15 = .ok (.isub, 1) := dk_100 (dk_at dksX4_undo_0 15 rfl rfl)
theorem dX4_undo_16 : decode cX4_undo 16 = .ok (.putfield 371, 3) := dk_181 1 115 (dk_at dksX4_undo_0 16 rfl rfl)
theorem dX4_undo_19 : decode cX4_undo 19 = .ok (.aload_n 0, 1) := dk_42 (dk_at dksX4_undo_0 19 rfl rfl)
theorem dX4_undo_20 : decode cX4_undo 20 = .ok (.dup, 1) := dk_89 (dk_at dksX4_undo_0 20 rfl rfl)
theorem dX4_undo_21 : decode cX4_undo 21 = .ok (.getfield 374, 3) := dk_180 1 118 (dk_at dksX4_undo_0 21 rfl rfl)
theorem dX4_undo_24 : decode cX4_undo 24 = .ok (.iconst 1, 1) := dk_4 (dk_at dksX4_undo_1 0 rfl rfl)
theorem dX4_undo_25 : decode cX4_undo 25 = .ok (.iadd, 1) := dk_96 (dk_at dksX4_undo_1 1 rfl rfl)
theorem dX4_undo_26 : decode cX4_undo 26 = .ok (.putfield 374, 3) := dk_181 1 118 (dk_at dksX4_undo_1 2 rfl rfl)
theorem dX4_undo_29 : decode cX4_undo 29 = .ok (.aload_n 0, 1) := dk_42 (dk_at dksX4_undo_1 5 rfl rfl)
theorem dX4_undo_30 : decode cX4_undo 30 = .ok (.invokevirtual 395, 3) := dk_182 1 139 (dk_at dksX4_undo_1 6 rfl rfl)
theorem dX4_undo_33 : decode cX4_undo 33 = .ok (.iconst 1, 1) := dk_4 (dk_at dksX4_undo_1 9 rfl rfl)
theorem dX4_undo_34 : decode cX4_undo 34 = .ok (.ireturn, 1) := dk_172 (dk_at dksX4_undo_1 10 rfl rfl)
abbrev cX4_exchange : ByteArray := prog_27_method_53_code
def yX4_exchange : MethodName := ⟨RX4, "exchange", "()V"⟩
def dkwX4_exchange_2 : List UInt8 := [180, 0, 77, 27, 28, 79, 132, 1, 1, 167, 255, 202, 177]
abbrev dktX4_exchange_2 : List UInt8 := dkwX4_exchange_2 ++ []
def dkwX4_exchange_1 : List UInt8 := [61, 42, 180, 0, 80, 17, 0, 221, 42, 180, 1, 115, 104, 27, 96, 42, 180, 0, 77, 27, 46, 79, 42]
abbrev dktX4_exchange_1 : List UInt8 := dkwX4_exchange_1 ++ dktX4_exchange_2
def dkwX4_exchange_0 : List UInt8 := [3, 60, 27, 17, 0, 221, 162, 0, 53, 42, 180, 0, 80, 17, 0, 221, 42, 180, 1, 115, 104, 27, 96, 46]
abbrev dktX4_exchange_0 : List UInt8 := dkwX4_exchange_0 ++ dktX4_exchange_1
theorem dksX4_exchange_0 : cX4_exchange.data.toList.drop 0 = dktX4_exchange_0 := by decide +kernel
theorem dksX4_exchange_1 : cX4_exchange.data.toList.drop 24 = dktX4_exchange_1 := dk_seg dksX4_exchange_0 24 rfl rfl
theorem dksX4_exchange_2 : cX4_exchange.data.toList.drop 47 = dktX4_exchange_2 := dk_seg dksX4_exchange_1 23 rfl rfl
theorem dX4_exchange_0 : decode cX4_exchange 0 = .ok (.iconst 0, 1) := dk_3 (dk_at dksX4_exchange_0 0 rfl rfl)
theorem dX4_exchange_1 : decode cX4_exchange 1 = .ok (.istore_n 1, 1) := dk_60 (dk_at dksX4_exchange_0 1 rfl rfl)
theorem dX4_exchange_2 : decode cX4_exchange 2 = .ok (.iload_n 1, 1) := dk_27 (dk_at dksX4_exchange_0 2 rfl rfl)
theorem dX4_exchange_3 : decode cX4_exchange 3 = .ok (.sipush 221, 3) := dk_17 0 221 (dk_at dksX4_exchange_0 3 rfl rfl)
theorem dX4_exchange_6 : decode cX4_exchange 6 = .ok (.if_icmp .ge 53, 3) := dk_162 0 53 (dk_at dksX4_exchange_0 6 rfl rfl)
theorem dX4_exchange_9 : decode cX4_exchange 9 = .ok (.aload_n 0, 1) := dk_42 (dk_at dksX4_exchange_0 9 rfl rfl)
theorem dX4_exchange_10 : decode cX4_exchange 10 = .ok (.getfield 80, 3) := dk_180 0 80 (dk_at dksX4_exchange_0 10 rfl rfl)
theorem dX4_exchange_13 : decode cX4_exchange 13 = .ok (.sipush 221, 3) := dk_17 0 221 (dk_at dksX4_exchange_0 13 rfl rfl)
theorem dX4_exchange_16 : decode cX4_exchange 16 = .ok (.aload_n 0, 1) := dk_42 (dk_at dksX4_exchange_0 16 rfl rfl)
theorem dX4_exchange_17 : decode cX4_exchange 17 = .ok (.getfield 371, 3) := dk_180 1 115 (dk_at dksX4_exchange_0 17 rfl rfl)
theorem dX4_exchange_20 : decode cX4_exchange 20 = .ok (.imul, 1) := dk_104 (dk_at dksX4_exchange_0 20 rfl rfl)
theorem dX4_exchange_21 : decode cX4_exchange 21 = .ok (.iload_n 1, 1) := dk_27 (dk_at dksX4_exchange_0 21 rfl rfl)
theorem dX4_exchange_22 : decode cX4_exchange 22 = .ok (.iadd, 1) := dk_96 (dk_at dksX4_exchange_0 22 rfl rfl)
theorem dX4_exchange_23 : decode cX4_exchange 23 = .ok (.iaload, 1) := dk_46 (dk_at dksX4_exchange_0 23 rfl rfl)
theorem dX4_exchange_24 : decode cX4_exchange 24 = .ok (.istore_n 2, 1) := dk_61 (dk_at dksX4_exchange_1 0 rfl rfl)
theorem dX4_exchange_25 : decode cX4_exchange 25 = .ok (.aload_n 0, 1) := dk_42 (dk_at dksX4_exchange_1 1 rfl rfl)
theorem dX4_exchange_26 : decode cX4_exchange 26 = .ok (.getfield 80, 3) := dk_180 0 80 (dk_at dksX4_exchange_1 2 rfl rfl)
theorem dX4_exchange_29 : decode cX4_exchange 29 = .ok (.sipush 221, 3) := dk_17 0 221 (dk_at dksX4_exchange_1 5 rfl rfl)
theorem dX4_exchange_32 : decode cX4_exchange 32 = .ok (.aload_n 0, 1) := dk_42 (dk_at dksX4_exchange_1 8 rfl rfl)
theorem dX4_exchange_33 : decode cX4_exchange 33 = .ok (.getfield 371, 3) := dk_180 1 115 (dk_at dksX4_exchange_1 9 rfl rfl)
theorem dX4_exchange_36 : decode cX4_exchange 36 = .ok (.imul, 1) := dk_104 (dk_at dksX4_exchange_1 12 rfl rfl)
theorem dX4_exchange_37 : decode cX4_exchange 37 = .ok (.iload_n 1, 1) := dk_27 (dk_at dksX4_exchange_1 13 rfl rfl)
theorem dX4_exchange_38 : decode cX4_exchange 38 = .ok (.iadd, 1) := dk_96 (dk_at dksX4_exchange_1 14 rfl rfl)
theorem dX4_exchange_39 : decode cX4_exchange 39 = .ok (.aload_n 0, 1) := dk_42 (dk_at dksX4_exchange_1 15 rfl rfl)
theorem dX4_exchange_40 : decode cX4_exchange 40 = .ok (.getfield 77, 3) := dk_180 0 77 (dk_at dksX4_exchange_1 16 rfl rfl)
theorem dX4_exchange_43 : decode cX4_exchange 43 = .ok (.iload_n 1, 1) := dk_27 (dk_at dksX4_exchange_1 19 rfl rfl)
theorem dX4_exchange_44 : decode cX4_exchange 44 = .ok (.iaload, 1) := dk_46 (dk_at dksX4_exchange_1 20 rfl rfl)
theorem dX4_exchange_45 : decode cX4_exchange 45 = .ok (.iastore, 1) := dk_79 (dk_at dksX4_exchange_1 21 rfl rfl)
theorem dX4_exchange_46 : decode cX4_exchange 46 = .ok (.aload_n 0, 1) := dk_42 (dk_at dksX4_exchange_1 22 rfl rfl)
theorem dX4_exchange_47 : decode cX4_exchange 47 = .ok (.getfield 77, 3) := dk_180 0 77 (dk_at dksX4_exchange_2 0 rfl rfl)
theorem dX4_exchange_50 : decode cX4_exchange 50 = .ok (.iload_n 1, 1) := dk_27 (dk_at dksX4_exchange_2 3 rfl rfl)
theorem dX4_exchange_51 : decode cX4_exchange 51 = .ok (.iload_n 2, 1) := dk_28 (dk_at dksX4_exchange_2 4 rfl rfl)
theorem dX4_exchange_52 : decode cX4_exchange 52 = .ok (.iastore, 1) := dk_79 (dk_at dksX4_exchange_2 5 rfl rfl)
theorem dX4_exchange_53 : decode cX4_exchange 53 = .ok (.iinc 1 1, 3) := dk_132 1 1 (dk_at dksX4_exchange_2 6 rfl rfl)
theorem dX4_exchange_56 : decode cX4_exchange 56 = .ok (.goto (-54), 3) := dk_167 255 202 (dk_at dksX4_exchange_2 9 rfl rfl)
theorem dX4_exchange_59 : decode cX4_exchange 59 = .ok (.return_, 1) := dk_177 (dk_at dksX4_exchange_2 12 rfl rfl)
abbrev cX4_redo : ByteArray := prog_27_method_59_code
def yX4_redo : MethodName := ⟨RX4, "redo", "()Z"⟩
def dkwX4_redo_1 : List UInt8 := [89, 180, 1, 118, 4, 100, 181, 1, 118, 4, 172]
abbrev dktX4_redo_1 : List UInt8 := dkwX4_redo_1 ++ []
def dkwX4_redo_0 : List UInt8 := [42, 180, 1, 118, 154, 0, 5, 3, 172, 42, 182, 1, 139, 42, 89, 180, 1, 115, 4, 96, 181, 1, 115, 42]
abbrev dktX4_redo_0 : List UInt8 := dkwX4_redo_0 ++ dktX4_redo_1
theorem dksX4_redo_0 : cX4_redo.data.toList.drop 0 = dktX4_redo_0 := by decide +kernel
theorem dksX4_redo_1 : cX4_redo.data.toList.drop 24 = dktX4_redo_1 := dk_seg dksX4_redo_0 24 rfl rfl
theorem dX4_redo_0 : decode cX4_redo 0 = .ok (.aload_n 0, 1) := dk_42 (dk_at dksX4_redo_0 0 rfl rfl)
theorem dX4_redo_1 : decode cX4_redo 1 = .ok (.getfield 374, 3) := dk_180 1 118 (dk_at dksX4_redo_0 1 rfl rfl)
theorem dX4_redo_4 : decode cX4_redo 4 = .ok (.ifCond .ne 5, 3) := dk_154 0 5 (dk_at dksX4_redo_0 4 rfl rfl)
theorem dX4_redo_7 : decode cX4_redo 7 = .ok (.iconst 0, 1) := dk_3 (dk_at dksX4_redo_0 7 rfl rfl)
theorem dX4_redo_8 : decode cX4_redo 8 = .ok (.ireturn, 1) := dk_172 (dk_at dksX4_redo_0 8 rfl rfl)
theorem dX4_redo_9 : decode cX4_redo 9 = .ok (.aload_n 0, 1) := dk_42 (dk_at dksX4_redo_0 9 rfl rfl)
theorem dX4_redo_10 : decode cX4_redo 10 = .ok (.invokevirtual 395, 3) := dk_182 1 139 (dk_at dksX4_redo_0 10 rfl rfl)
theorem dX4_redo_13 : decode cX4_redo 13 = .ok (.aload_n 0, 1) := dk_42 (dk_at dksX4_redo_0 13 rfl rfl)
theorem dX4_redo_14 : decode cX4_redo 14 = .ok (.dup, 1) := dk_89 (dk_at dksX4_redo_0 14 rfl rfl)
theorem dX4_redo_15 : decode cX4_redo 15 = .ok (.getfield 371, 3) := dk_180 1 115 (dk_at dksX4_redo_0 15 rfl rfl)
theorem dX4_redo_18 : decode cX4_redo 18 = .ok (.iconst 1, 1) := dk_4 (dk_at dksX4_redo_0 18 rfl rfl)
theorem dX4_redo_19 : decode cX4_redo 19 = .ok (.iadd, 1) := dk_96 (dk_at dksX4_redo_0 19 rfl rfl)
theorem dX4_redo_20 : decode cX4_redo 20 = .ok (.putfield 371, 3) := dk_181 1 115 (dk_at dksX4_redo_0 20 rfl rfl)
theorem dX4_redo_23 : decode cX4_redo 23 = .ok (.aload_n 0, 1) := dk_42 (dk_at dksX4_redo_0 23 rfl rfl)
theorem dX4_redo_24 : decode cX4_redo 24 = .ok (.dup, 1) := dk_89 (dk_at dksX4_redo_1 0 rfl rfl)
theorem dX4_redo_25 : decode cX4_redo 25 = .ok (.getfield 374, 3) := dk_180 1 118 (dk_at dksX4_redo_1 1 rfl rfl)
theorem dX4_redo_28 : decode cX4_redo 28 = .ok (.iconst 1, 1) := dk_4 (dk_at dksX4_redo_1 4 rfl rfl)
theorem dX4_redo_29 : decode cX4_redo 29 = .ok (.isub, 1) := dk_100 (dk_at dksX4_redo_1 5 rfl rfl)
theorem dX4_redo_30 : decode cX4_redo 30 = .ok (.putfield 374, 3) := dk_181 1 118 (dk_at dksX4_redo_1 6 rfl rfl)
theorem dX4_redo_33 : decode cX4_redo 33 = .ok (.iconst 1, 1) := dk_4 (dk_at dksX4_redo_1 9 rfl rfl)
theorem dX4_redo_34 : decode cX4_redo 34 = .ok (.ireturn, 1) := dk_172 (dk_at dksX4_redo_1 10 rfl rfl)
abbrev cX4_whose : ByteArray := prog_27_method_60_code
def yX4_whose : MethodName := ⟨RX4, "whose", "(III)I"⟩
def dkwX4_whose_3 : List UInt8 := [132, 5, 1, 167, 255, 213, 21, 4, 172]
abbrev dktX4_whose_3 : List UInt8 := dkwX4_whose_3 ++ []
def dkwX4_whose_2 : List UInt8 := [182, 1, 136, 21, 5, 28, 3, 182, 1, 111, 29, 160, 0, 12, 21, 4, 4, 21, 5, 120, 128, 54, 4]
abbrev dktX4_whose_2 : List UInt8 := dkwX4_whose_2 ++ dktX4_whose_3
def dkwX4_whose_1 : List UInt8 := [172, 3, 54, 4, 3, 54, 5, 21, 5, 42, 180, 0, 27, 42, 180, 0, 250, 46, 162, 0, 35, 42, 42, 27]
abbrev dktX4_whose_1 : List UInt8 := dkwX4_whose_1 ++ dktX4_whose_2
def dkwX4_whose_0 : List UInt8 := [42, 27, 182, 1, 127, 153, 0, 18, 28, 184, 1, 108, 153, 0, 11, 42, 29, 182, 1, 102, 154, 0, 5, 2]
abbrev dktX4_whose_0 : List UInt8 := dkwX4_whose_0 ++ dktX4_whose_1
theorem dksX4_whose_0 : cX4_whose.data.toList.drop 0 = dktX4_whose_0 := by decide +kernel
theorem dksX4_whose_1 : cX4_whose.data.toList.drop 24 = dktX4_whose_1 := dk_seg dksX4_whose_0 24 rfl rfl
theorem dksX4_whose_2 : cX4_whose.data.toList.drop 48 = dktX4_whose_2 := dk_seg dksX4_whose_1 24 rfl rfl
theorem dksX4_whose_3 : cX4_whose.data.toList.drop 71 = dktX4_whose_3 := dk_seg dksX4_whose_2 23 rfl rfl
theorem dX4_whose_0 : decode cX4_whose 0 = .ok (.aload_n 0, 1) := dk_42 (dk_at dksX4_whose_0 0 rfl rfl)
theorem dX4_whose_1 : decode cX4_whose 1 = .ok (.iload_n 1, 1) := dk_27 (dk_at dksX4_whose_0 1 rfl rfl)
theorem dX4_whose_2 : decode cX4_whose 2 = .ok (.invokevirtual 383, 3) := dk_182 1 127 (dk_at dksX4_whose_0 2 rfl rfl)
theorem dX4_whose_5 : decode cX4_whose 5 = .ok (.ifCond .eq 18, 3) := dk_153 0 18 (dk_at dksX4_whose_0 5 rfl rfl)
theorem dX4_whose_8 : decode cX4_whose 8 = .ok (.iload_n 2, 1) := dk_28 (dk_at dksX4_whose_0 8 rfl rfl)
theorem dX4_whose_9 : decode cX4_whose 9 = .ok (.invokestatic 364, 3) := dk_184 1 108 (dk_at dksX4_whose_0 9 rfl rfl)
theorem dX4_whose_12 : decode cX4_whose 12 = .ok (.ifCond .eq 11, 3) := dk_153 0 11 (dk_at dksX4_whose_0 12 rfl rfl)
theorem dX4_whose_15 : decode cX4_whose 15 = .ok (.aload_n 0, 1) := dk_42 (dk_at dksX4_whose_0 15 rfl rfl)
theorem dX4_whose_16 : decode cX4_whose 16 = .ok (.iload_n 3, 1) := dk_29 (dk_at dksX4_whose_0 16 rfl rfl)
theorem dX4_whose_17 : decode cX4_whose 17 = .ok (.invokevirtual 358, 3) := dk_182 1 102 (dk_at dksX4_whose_0 17 rfl rfl)
theorem dX4_whose_20 : decode cX4_whose 20 = .ok (.ifCond .ne 5, 3) := dk_154 0 5 (dk_at dksX4_whose_0 20 rfl rfl)
theorem dX4_whose_23 : decode cX4_whose 23 = .ok (.iconst (-1), 1) := dk_2 (dk_at dksX4_whose_0 23 rfl rfl)
theorem dX4_whose_24 : decode cX4_whose 24 = .ok (.ireturn, 1) := dk_172 (dk_at dksX4_whose_1 0 rfl rfl)
theorem dX4_whose_25 : decode cX4_whose 25 = .ok (.iconst 0, 1) := dk_3 (dk_at dksX4_whose_1 1 rfl rfl)
theorem dX4_whose_26 : decode cX4_whose 26 = .ok (.istore 4, 2) := dk_54 4 (dk_at dksX4_whose_1 2 rfl rfl)
theorem dX4_whose_28 : decode cX4_whose 28 = .ok (.iconst 0, 1) := dk_3 (dk_at dksX4_whose_1 4 rfl rfl)
theorem dX4_whose_29 : decode cX4_whose 29 = .ok (.istore 5, 2) := dk_54 5 (dk_at dksX4_whose_1 5 rfl rfl)
theorem dX4_whose_31 : decode cX4_whose 31 = .ok (.iload 5, 2) := dk_21 5 (dk_at dksX4_whose_1 7 rfl rfl)
theorem dX4_whose_33 : decode cX4_whose 33 = .ok (.aload_n 0, 1) := dk_42 (dk_at dksX4_whose_1 9 rfl rfl)
theorem dX4_whose_34 : decode cX4_whose 34 = .ok (.getfield 27, 3) := dk_180 0 27 (dk_at dksX4_whose_1 10 rfl rfl)
theorem dX4_whose_37 : decode cX4_whose 37 = .ok (.aload_n 0, 1) := dk_42 (dk_at dksX4_whose_1 13 rfl rfl)
theorem dX4_whose_38 : decode cX4_whose 38 = .ok (.getfield 250, 3) := dk_180 0 250 (dk_at dksX4_whose_1 14 rfl rfl)
theorem dX4_whose_41 : decode cX4_whose 41 = .ok (.iaload, 1) := dk_46 (dk_at dksX4_whose_1 17 rfl rfl)
theorem dX4_whose_42 : decode cX4_whose 42 = .ok (.if_icmp .ge 35, 3) := dk_162 0 35 (dk_at dksX4_whose_1 18 rfl rfl)
theorem dX4_whose_45 : decode cX4_whose 45 = .ok (.aload_n 0, 1) := dk_42 (dk_at dksX4_whose_1 21 rfl rfl)
theorem dX4_whose_46 : decode cX4_whose 46 = .ok (.aload_n 0, 1) := dk_42 (dk_at dksX4_whose_1 22 rfl rfl)
theorem dX4_whose_47 : decode cX4_whose 47 = .ok (.iload_n 1, 1) := dk_27 (dk_at dksX4_whose_1 23 rfl rfl)
theorem dX4_whose_48 : decode cX4_whose 48 = .ok (.invokevirtual 392, 3) := dk_182 1 136 (dk_at dksX4_whose_2 0 rfl rfl)
theorem dX4_whose_51 : decode cX4_whose 51 = .ok (.iload 5, 2) := dk_21 5 (dk_at dksX4_whose_2 3 rfl rfl)
theorem dX4_whose_53 : decode cX4_whose 53 = .ok (.iload_n 2, 1) := dk_28 (dk_at dksX4_whose_2 5 rfl rfl)
theorem dX4_whose_54 : decode cX4_whose 54 = .ok (.iconst 0, 1) := dk_3 (dk_at dksX4_whose_2 6 rfl rfl)
theorem dX4_whose_55 : decode cX4_whose 55 = .ok (.invokevirtual 367, 3) := dk_182 1 111 (dk_at dksX4_whose_2 7 rfl rfl)
theorem dX4_whose_58 : decode cX4_whose 58 = .ok (.iload_n 3, 1) := dk_29 (dk_at dksX4_whose_2 10 rfl rfl)
theorem dX4_whose_59 : decode cX4_whose 59 = .ok (.if_icmp .ne 12, 3) := dk_160 0 12 (dk_at dksX4_whose_2 11 rfl rfl)
theorem dX4_whose_62 : decode cX4_whose 62 = .ok (.iload 4, 2) := dk_21 4 (dk_at dksX4_whose_2 14 rfl rfl)
theorem dX4_whose_64 : decode cX4_whose 64 = .ok (.iconst 1, 1) := dk_4 (dk_at dksX4_whose_2 16 rfl rfl)
theorem dX4_whose_65 : decode cX4_whose 65 = .ok (.iload 5, 2) := dk_21 5 (dk_at dksX4_whose_2 17 rfl rfl)
theorem dX4_whose_67 : decode cX4_whose 67 = .ok (.ishl, 1) := dk_120 (dk_at dksX4_whose_2 19 rfl rfl)
theorem dX4_whose_68 : decode cX4_whose 68 = .ok (.ior, 1) := dk_128 (dk_at dksX4_whose_2 20 rfl rfl)
theorem dX4_whose_69 : decode cX4_whose 69 = .ok (.istore 4, 2) := dk_54 4 (dk_at dksX4_whose_2 21 rfl rfl)
theorem dX4_whose_71 : decode cX4_whose 71 = .ok (.iinc 5 1, 3) := dk_132 5 1 (dk_at dksX4_whose_3 0 rfl rfl)
theorem dX4_whose_74 : decode cX4_whose 74 = .ok (.goto (-43), 3) := dk_167 255 213 (dk_at dksX4_whose_3 3 rfl rfl)
theorem dX4_whose_77 : decode cX4_whose 77 = .ok (.iload 4, 2) := dk_21 4 (dk_at dksX4_whose_3 6 rfl rfl)
theorem dX4_whose_79 : decode cX4_whose 79 = .ok (.ireturn, 1) := dk_172 (dk_at dksX4_whose_3 8 rfl rfl)
