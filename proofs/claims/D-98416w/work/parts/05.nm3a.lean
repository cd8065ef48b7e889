/-! SealCasts -/
set_option maxRecDepth 100000
def RX0 : String := "SealCasts"
def TX0 : u_T := fun k => match k with
  | 0 => ("SealCasts", "tape", "[B", true)
  | 1 => ("SealCasts", "taped", "I", false)
  | 2 => ("SealCasts", "faultKind", "I", false)
  | 3 => ("SealCasts", "faultPlace", "I", false)
  | 4 => ("SealCasts", "book", "LSealCasts$Book;", false)
  | 5 => ("SealCasts", "now", "LSealCasts$Chest;", true)
  | 6 => ("SealCasts", "spare", "LSealCasts$Chest;", true)
  | 7 => ("SealCasts", "time", "I", false)
  | 8 => ("SealCasts", "were", "[LSealCasts$Chest;", true)
  | 9 => ("SealCasts", "acts", "I", false)
  | 10 => ("SealCasts", "undone", "I", false)
  | 11 => ("SealCasts", "given", "[I", true)
  | 12 => ("SealCasts", "own", "[I", true)
  | 13 => ("SealCasts", "part", "[I", true)
  | 14 => ("SealCasts", "over", "[I", true)
  | 15 => ("SealCasts", "lies", "[I", true)
  | 16 => ("SealCasts", "lain", "I", false)
  | 17 => ("SealCasts", "cameAt", "[I", true)
  | 18 => ("SealCasts", "gets", "[[I", true)
  | 19 => ("SealCasts", "least", "[[I", true)
  | 20 => ("SealCasts", "facts", "Ljava/util/ArrayList;", true)
  | 21 => ("SealCasts", "known", "[LSealCasts$Sample;", true)
  | 22 => ("SealCasts", "from", "[I", true)
  | 23 => ("SealCasts", "first", "[I", true)
  | 24 => ("SealCasts", "samples", "I", false)
  | 25 => ("SealCasts", "treeChanges", "I", false)
  | 26 => ("SealCasts", "treeMany", "I", false)
  | 27 => ("SealCasts", "with", "[I", true)
  | 28 => ("SealCasts", "turn", "[I", true)
  | 29 => ("SealCasts", "boxes", "[LSealCasts$Chest;", true)
  | _ => ("SealCasts", "isThere", "[Z", true)
def tyX0 : Nat → FieldType := fun k => match k with
  | 0 => .array .byte
  | 1 => .int
  | 2 => .int
  | 3 => .int
  | 4 => .object "SealCasts$Book"
  | 5 => .object "SealCasts$Chest"
  | 6 => .object "SealCasts$Chest"
  | 7 => .int
  | 8 => .array (.object "SealCasts$Chest")
  | 9 => .int
  | 10 => .int
  | 11 => .array .int
  | 12 => .array .int
  | 13 => .array .int
  | 14 => .array .int
  | 15 => .array .int
  | 16 => .int
  | 17 => .array .int
  | 18 => .array (.array .int)
  | 19 => .array (.array .int)
  | 20 => .object "java/util/ArrayList"
  | 21 => .array (.object "SealCasts$Sample")
  | 22 => .array .int
  | 23 => .array .int
  | 24 => .int
  | 25 => .int
  | 26 => .int
  | 27 => .array .int
  | 28 => .array .int
  | 29 => .array (.object "SealCasts$Chest")
  | _ => .array .boolean
abbrev wsX00 : List Cond := u_ws RX0 TX0 31
set_option maxRecDepth 100000 in
theorem nmX0 : ∀ a, a < 31 → ∀ b, b < 31 → a ≠ b → (TX0 a).2.1 ≠ (TX0 b).2.1 := by decide +kernel
set_option maxRecDepth 100000 in
theorem tyX0_ok : ∀ k, k < 31 → parseFieldDescriptor (TX0 k).2.2.1 = some (tyX0 k) := by decide +kernel
abbrev cX0_init : ByteArray := prog_1_method_2_code
def yX0_init : MethodName := ⟨RX0, "<init>", "()V"⟩
def dkwX0_init_11 : List UInt8 := [167, 255, 235, 177]
abbrev dktX0_init_11 : List UInt8 := dkwX0_init_11 ++ []
def dkwX0_init_10 : List UInt8 := [3, 60, 27, 6, 162, 0, 22, 42, 180, 0, 96, 27, 187, 0, 24, 89, 183, 0, 26, 83, 132, 1, 1]
abbrev dktX0_init_10 : List UInt8 := dkwX0_init_10 ++ dktX0_init_11
def dkwX0_init_9 : List UInt8 := [16, 40, 162, 0, 22, 42, 180, 0, 38, 27, 187, 0, 24, 89, 183, 0, 26, 83, 132, 1, 1, 167, 255, 234]
abbrev dktX0_init_9 : List UInt8 := dkwX0_init_9 ++ dktX0_init_10
def dkwX0_init_8 : List UInt8 := [188, 10, 181, 0, 93, 42, 6, 189, 0, 24, 181, 0, 96, 42, 6, 188, 4, 181, 0, 99, 3, 60, 27]
abbrev dktX0_init_8 : List UInt8 := dkwX0_init_8 ++ dktX0_init_9
def dkwX0_init_7 : List UInt8 := [188, 10, 181, 0, 84, 42, 16, 7, 188, 10, 181, 0, 87, 42, 16, 8, 188, 10, 181, 0, 90, 42, 16, 8]
abbrev dktX0_init_7 : List UInt8 := dkwX0_init_7 ++ dktX0_init_8
def dkwX0_init_6 : List UInt8 := [187, 0, 69, 89, 5, 183, 0, 71, 181, 0, 74, 42, 16, 7, 189, 0, 78, 181, 0, 80, 42, 16, 7]
abbrev dktX0_init_6 : List UInt8 := dkwX0_init_6 ++ dktX0_init_7
def dkwX0_init_5 : List UInt8 := [17, 16, 0, 197, 0, 61, 2, 181, 0, 63, 42, 8, 17, 16, 0, 197, 0, 61, 2, 181, 0, 66, 42]
abbrev dktX0_init_5 : List UInt8 := dkwX0_init_5 ++ dktX0_init_6
def dkwX0_init_4 : List UInt8 := [181, 0, 52, 42, 16, 12, 188, 10, 181, 0, 55, 42, 17, 16, 0, 188, 10, 181, 0, 58, 42, 16, 16]
abbrev dktX0_init_4 : List UInt8 := dkwX0_init_4 ++ dktX0_init_5
def dkwX0_init_3 : List UInt8 := [188, 10, 181, 0, 42, 42, 7, 188, 10, 181, 0, 46, 42, 7, 188, 10, 181, 0, 49, 42, 7, 188, 10]
abbrev dktX0_init_3 : List UInt8 := dkwX0_init_3 ++ dktX0_init_4
def dkwX0_init_2 : List UInt8 := [42, 187, 0, 24, 89, 183, 0, 26, 181, 0, 35, 42, 16, 40, 189, 0, 24, 181, 0, 38, 42, 16, 100]
abbrev dktX0_init_2 : List UInt8 := dkwX0_init_2 ++ dktX0_init_3
def dkwX0_init_1 : List UInt8 := [183, 0, 19, 181, 0, 20, 42, 187, 0, 24, 89, 183, 0, 26, 42, 180, 0, 20, 182, 0, 27, 181, 0, 31]
abbrev dktX0_init_1 : List UInt8 := dkwX0_init_1 ++ dktX0_init_2
def dkwX0_init_0 : List UInt8 := [42, 183, 0, 3, 42, 17, 6, 64, 188, 8, 181, 0, 9, 42, 2, 181, 0, 13, 42, 187, 0, 17, 89]
abbrev dktX0_init_0 : List UInt8 := dkwX0_init_0 ++ dktX0_init_1
theorem dksX0_init_0 : cX0_init.data.toList.drop 0 = dktX0_init_0 := by decide +kernel
theorem dksX0_init_1 : cX0_init.data.toList.drop 23 = dktX0_init_1 := dk_seg dksX0_init_0 23 rfl rfl
theorem dksX0_init_2 : cX0_init.data.toList.drop 47 = dktX0_init_2 := dk_seg dksX0_init_1 24 rfl rfl
theorem dksX0_init_3 : cX0_init.data.toList.drop 70 = dktX0_init_3 := dk_seg dksX0_init_2 23 rfl rfl
theorem dksX0_init_4 : cX0_init.data.toList.drop 93 = dktX0_init_4 := dk_seg dksX0_init_3 23 rfl rfl
theorem dksX0_init_5 : cX0_init.data.toList.drop 116 = dktX0_init_5 := dk_seg dksX0_init_4 23 rfl rfl
theorem dksX0_init_6 : cX0_init.data.toList.drop 139 = dktX0_init_6 := dk_seg dksX0_init_5 23 rfl rfl
theorem dksX0_init_7 : cX0_init.data.toList.drop 162 = dktX0_init_7 := dk_seg dksX0_init_6 23 rfl rfl
theorem dksX0_init_8 : cX0_init.data.toList.drop 186 = dktX0_init_8 := dk_seg dksX0_init_7 24 rfl rfl
theorem dksX0_init_9 : cX0_init.data.toList.drop 209 = dktX0_init_9 := dk_seg dksX0_init_8 23 rfl rfl
theorem dksX0_init_10 : cX0_init.data.toList.drop 233 = dktX0_init_10 := dk_seg dksX0_init_9 24 rfl rfl
theorem dksX0_init_11 : cX0_init.data.toList.drop 256 = dktX0_init_11 := dk_seg dksX0_init_10 23 rfl rfl
theorem dX0_init_0 : decode cX0_init 0 = .ok (.aload_n 0, 1) := dk_42 (dk_at dksX0_init_0 0 rfl rfl)
theorem dX0_init_1 : decode cX0_init 1 = .ok (.invokespecial 3, 3) := dk_183 0 3 (dk_at dksX0_init_0 1 rfl rfl)
theorem dX0_init_4 : decode cX0_init 4 = .ok (.aload_n 0, 1) := dk_42 (dk_at dksX0_init_0 4 rfl rfl)
theorem dX0_init_5 : decode cX0_init 5 = .ok (.sipush 1600, 3) := dk_17 6 64 (dk_at dksX0_init_0 5 rfl rfl)
theorem dX0_init_8 : decode cX0_init 8 = .ok (.newarray .byte, 2) := dk_188_8 (dk_at dksX0_init_0 8 rfl rfl)
theorem dX0_init_10 : decode cX0_init 10 = .ok (.putfield 9, 3) := dk_181 0 9 (dk_at dksX0_init_0 10 rfl rfl)
theorem dX0_init_13 : decode cX0_init 13 = .ok (.aload_n 0, 1) := dk_42 (dk_at dksX0_init_0 13 rfl rfl)
theorem dX0_init_14 : decode cX0_init 14 = .ok (.iconst (-1), 1) := dk_2 (dk_at dksX0_init_0 14 rfl rfl)
theorem dX0_init_15 : decode cX0_init 15 = .ok (.putfield 13, 3) := dk_181 0 13 (dk_at dksX0_init_0 15 rfl rfl)
theorem dX0_init_18 : decode cX0_init 18 = .ok (.aload_n 0, 1) := dk_42 (dk_at dksX0_init_0 18 rfl rfl)
theorem dX0_init_19 : decode cX0_init 19 = .ok (.new 17, 3) := dk_187 0 17 (dk_at dksX0_init_0 19 rfl rfl)
theorem dX0_init_22 : decode cX0_init 22 = .ok (.dup, 1) := dk_89 (dk_at dksX0_init_0 22 rfl rfl)
theorem dX0_init_23 : decode cX0_init 23 = .ok (.invokespecial 19, 3) := dk_183 0 19 (dk_at dksX0_init_1 0 rfl rfl)
theorem dX0_init_26 : decode cX0_init 26 = .ok (.putfield 20, 3) := dk_181 0 20 (dk_at dksX0_init_1 3 rfl rfl)
theorem dX0_init_29 : decode cX0_init 29 = .ok (.aload_n 0, 1) := dk_42 (dk_at dksX0_init_1 6 rfl rfl)
theorem dX0_init_30 : decode cX0_init 30 = .ok (.new 24, 3) := dk_187 0 24 (dk_at dksX0_init_1 7 rfl rfl)
theorem dX0_init_33 : decode cX0_init 33 = .ok (.dup, 1) := dk_89 (dk_at dksX0_init_1 10 rfl rfl)
theorem dX0_init_34 : decode cX0_init 34 = .ok (.invokespecial 26, 3) := dk_183 0 26 (dk_at dksX0_init_1 11 rfl rfl)
theorem dX0_init_37 : decode cX0_init 37 = .ok (.aload_n 0, 1) := dk_42 (dk_at dksX0_init_1 14 rfl rfl)
theorem dX0_init_38 : decode cX0_init 38 = .ok (.getfield 20, 3) := dk_180 0 20 (dk_at dksX0_init_1 15 rfl rfl)
theorem dX0_init_41 : decode cX0_init 41 = .ok (.invokevirtual 27, 3) := dk_182 0 27 (dk_at dksX0_init_1 18 rfl rfl)
theorem dX0_init_44 : decode cX0_init 44 = .ok (.putfield 31, 3) := dk_181 0 31 (dk_at dksX0_init_1 21 rfl rfl)
theorem dX0_init_47 : decode cX0_init 47 = .ok (.aload_n 0, 1) := dk_42 (dk_at dksX0_init_2 0 rfl rfl)
theorem dX0_init_48 : decode cX0_init 48 = .ok (.new 24, 3) := dk_187 0 24 (dk_at dksX0_init_2 1 rfl rfl)
theorem dX0_init_51 : decode cX0_init 51 = .ok (.dup, 1) := dk_89 (dk_at dksX0_init_2 4 rfl rfl)
theorem dX0_init_52 : decode cX0_init 52 = .ok (.invokespecial 26, 3) := dk_183 0 26 (dk_at dksX0_init_2 5 rfl rfl)
theorem dX0_init_55 : decode cX0_init 55 = .ok (.putfield 35, 3) := dk_181 0 35 (dk_at dksX0_init_2 8 rfl rfl)
theorem dX0_init_58 : decode cX0_init 58 = .ok (.aload_n 0, 1) := dk_42 (dk_at dksX0_init_2 11 rfl rfl)
theorem dX0_init_59 : decode cX0_init 59 = .ok (.bipush 40, 2) := dk_16 40 (dk_at dksX0_init_2 12 rfl rfl)
theorem dX0_init_61 : decode cX0_init 61 = .ok (.anewarray 24, 3) := dk_189 0 24 (dk_at dksX0_init_2 14 rfl rfl)
theorem dX0_init_64 : decode cX0_init 64 = .ok (.putfield 38, 3) := dk_181 0 38 (dk_at dksX0_init_2 17 rfl rfl)
theorem dX0_init_67 : decode cX0_init 67 = .ok (.aload_n 0, 1) := dk_42 (dk_at dksX0_init_2 20 rfl rfl)
theorem dX0_init_68 : decode cX0_init 68 = .ok (.bipush 100, 2) := dk_16 100 (dk_at dksX0_init_2 21 rfl rfl)
theorem dX0_init_70 : decode cX0_init 70 = .ok (.newarray .int, 2) := dk_188_10 (dk_at dksX0_init_3 0 rfl rfl)
theorem dX0_init_72 : decode cX0_init 72 = .ok (.putfield 42, 3) := dk_181 0 42 (dk_at dksX0_init_3 2 rfl rfl)
theorem dX0_init_75 : decode cX0_init 75 = .ok (.aload_n 0, 1) := dk_42 (dk_at dksX0_init_3 5 rfl rfl)
theorem dX0_init_76 : decode cX0_init 76 = .ok (.iconst 4, 1) := dk_7 (dk_at dksX0_init_3 6 rfl rfl)
theorem dX0_init_77 : decode cX0_init 77 = .ok (.newarray .int, 2) := dk_188_10 (dk_at dksX0_init_3 7 rfl rfl)
theorem dX0_init_79 : decode cX0_init 79 = .ok (.putfield 46, 3) := dk_181 0 46 (dk_at dksX0_init_3 9 rfl rfl)
theorem dX0_init_82 : decode cX0_init 82 = .ok (.aload_n 0, 1) := dk_42 (dk_at dksX0_init_3 12 rfl rfl)
theorem dX0_init_83 : decode cX0_init 83 = .ok (.iconst 4, 1) := dk_7 (dk_at dksX0_init_3 13 rfl rfl)
theorem dX0_init_84 : decode cX0_init 84 = .ok (.newarray .int, 2) := dk_188_10 (dk_at dksX0_init_3 14 rfl rfl)
theorem dX0_init_86 : decode cX0_init 86 = .ok (.putfield 49, 3) := dk_181 0 49 (dk_at dksX0_init_3 16 rfl rfl)
theorem dX0_init_89 : decode cX0_init 89 = .ok (.aload_n 0, 1) := dk_42 (dk_at dksX0_init_3 19 rfl rfl)
theorem dX0_init_90 : decode cX0_init 90 = .ok (.iconst 4, 1) := dk_7 (dk_at dksX0_init_3 20 rfl rfl)
theorem dX0_init_91 : decode cX0_init 91 = .ok (.newarray .int, 2) := dk_188_10 (dk_at dksX0_init_3 21 rfl rfl)
theorem dX0_init_93 : decode cX0_init 93 = .ok (.putfield 52, 3) := dk_181 0 52 (dk_at dksX0_init_4 0 rfl rfl)
theorem dX0_init_96 : decode cX0_init 96 = .ok (.aload_n 0, 1) := dk_42 (dk_at dksX0_init_4 3 rfl rfl)
theorem dX0_init_97 : decode cX0_init 97 = .ok (.bipush 12, 2) := dk_16 12 (dk_at dksX0_init_4 4 rfl rfl)
theorem dX0_init_99 : decode cX0_init 99 = .ok (.newarray .int, 2) := dk_188_10 (dk_at dksX0_init_4 6 rfl rfl)
theorem dX0_init_101 : decode cX0_init 101 = .ok (.putfield 55, 3) := dk_181 0 55 (dk_at dksX0_init_4 8 rfl rfl)
theorem dX0_init_104 : decode cX0_init 104 = .ok (.aload_n 0, 1) := dk_42 (dk_at dksX0_init_4 11 rfl rfl)
theorem dX0_init_105 : decode cX0_init 105 = .ok (.sipush 4096, 3) := dk_17 16 0 (dk_at dksX0_init_4 12 rfl rfl)
theorem dX0_init_108 : decode cX0_init 108 = .ok (.newarray .int, 2) := dk_188_10 (dk_at dksX0_init_4 15 rfl rfl)
theorem dX0_init_110 : decode cX0_init 110 = .ok (.putfield 58, 3) := dk_181 0 58 (dk_at dksX0_init_4 17 rfl rfl)
theorem dX0_init_113 : decode cX0_init 113 = .ok (.aload_n 0, 1) := dk_42 (dk_at dksX0_init_4 20 rfl rfl)
theorem dX0_init_114 : decode cX0_init 114 = .ok (.bipush 16, 2) := dk_16 16 (dk_at dksX0_init_4 21 rfl rfl)
theorem dX0_init_116 : decode cX0_init 116 = .ok (.sipush 4096, 3) := dk_17 16 0 (dk_at dksX0_init_5 0 rfl rfl)
theorem dX0_init_119 : decode cX0_init 119 = .ok (.multianewarray 61 2, 4) := by decide +kernel
theorem dX0_init_123 : decode cX0_init 123 = .ok (.putfield 63, 3) := dk_181 0 63 (dk_at dksX0_init_5 7 rfl rfl)
theorem dX0_init_126 : decode cX0_init 126 = .ok (.aload_n 0, 1) := dk_42 (dk_at dksX0_init_5 10 rfl rfl)
theorem dX0_init_127 : decode cX0_init 127 = .ok (.iconst 5, 1) := dk_8 (dk_at dksX0_init_5 11 rfl rfl)
theorem dX0_init_128 : decode cX0_init 128 = .ok (.sipush 4096, 3) := dk_17 16 0 (dk_at dksX0_init_5 12 rfl rfl)
theorem dX0_init_131 : decode cX0_init 131 = .ok (.multianewarray 61 2, 4) := by decide +kernel
theorem dX0_init_135 : decode cX0_init 135 = .ok (.putfield 66, 3) := dk_181 0 66 (dk_at dksX0_init_5 19 rfl rfl)
theorem dX0_init_138 : decode cX0_init 138 = .ok (.aload_n 0, 1) := dk_42 (dk_at dksX0_init_5 22 rfl rfl)
theorem dX0_init_139 : decode cX0_init 139 = .ok (.new 69, 3) := dk_187 0 69 (dk_at dksX0_init_6 0 rfl rfl)
theorem dX0_init_142 : decode cX0_init 142 = .ok (.dup, 1) := dk_89 (dk_at dksX0_init_6 3 rfl rfl)
theorem dX0_init_143 : decode cX0_init 143 = .ok (.iconst 2, 1) := dk_5 (dk_at dksX0_init_6 4 rfl rfl)
theorem dX0_init_144 : decode cX0_init 144 = .ok (.invokespecial 71, 3) := dk_183 0 71 (dk_at dksX0_init_6 5 rfl rfl)
theorem dX0_init_147 : decode cX0_init 147 = .ok (.putfield 74, 3) := dk_181 0 74 (dk_at dksX0_init_6 8 rfl rfl)
theorem dX0_init_150 : decode cX0_init 150 = .ok (.aload_n 0, 1) := dk_42 (dk_at dksX0_init_6 11 rfl rfl)
theorem dX0_init_151 : decode cX0_init 151 = .ok (.bipush 7, 2) := dk_16 7 (dk_at dksX0_init_6 12 rfl rfl)
theorem dX0_init_153 : decode cX0_init 153 = .ok (.anewarray 78, 3) := dk_189 0 78 (dk_at dksX0_init_6 14 rfl rfl)
theorem dX0_init_156 : decode cX0_init 156 = .ok (.putfield 80, 3) := dk_181 0 80 (dk_at dksX0_init_6 17 rfl rfl)
theorem dX0_init_159 : decode cX0_init 159 = .ok (.aload_n 0, 1) := dk_42 (dk_at dksX0_init_6 20 rfl rfl)
theorem dX0_init_160 : decode cX0_init 160 = .ok (.bipush 7, 2) := dk_16 7 (dk_at dksX0_init_6 21 rfl rfl)
theorem dX0_init_162 : decode cX0_init 162 = .ok (.newarray .int, 2) := dk_188_10 (dk_at dksX0_init_7 0 rfl rfl)
theorem dX0_init_164 : decode cX0_init 164 = .ok (.putfield 84, 3) := dk_181 0 84 (dk_at dksX0_init_7 2 rfl rfl)
theorem dX0_init_167 : decode cX0_init 167 = .ok (.aload_n 0, 1) := dk_42 (dk_at dksX0_init_7 5 rfl rfl)
theorem dX0_init_168 : decode cX0_init 168 = .ok (.bipush 7, 2) := dk_16 7 (dk_at dksX0_init_7 6 rfl rfl)
theorem dX0_init_170 : decode cX0_init 170 = .ok (.newarray .int, 2) := dk_188_10 (dk_at dksX0_init_7 8 rfl rfl)
theorem dX0_init_172 : decode cX0_init 172 = .ok (.putfield 87, 3) := dk_181 0 87 (dk_at dksX0_init_7 10 rfl rfl)
theorem dX0_init_175 : decode cX0_init 175 = .ok (.aload_n 0, 1) := dk_42 (dk_at dksX0_init_7 13 rfl rfl)
theorem dX0_init_176 : decode cX0_init 176 = .ok (.bipush 8, 2) := dk_16 8 (dk_at dksX0_init_7 14 rfl rfl)
theorem dX0_init_178 : decode cX0_init 178 = .ok (.newarray .int, 2) := dk_188_10 (dk_at dksX0_init_7 16 rfl rfl)
theorem dX0_init_180 : decode cX0_init 180 = .ok (.putfield 90, 3) := dk_181 0 90 (dk_at dksX0_init_7 18 rfl rfl)
theorem dX0_init_183 : decode cX0_init 183 = .ok (.aload_n 0, 1) := dk_42 (dk_at dksX0_init_7 21 rfl rfl)
theorem dX0_init_184 : decode cX0_init 184 = .ok (.bipush 8, 2) := dk_16 8 (dk_at dksX0_init_7 22 rfl rfl)
theorem dX0_init_186 : decode cX0_init 186 = .ok (.newarray .int, 2) := dk_188_10 (dk_at dksX0_init_8 0 rfl rfl)
theorem dX0_init_188 : decode cX0_init 188 = .ok (.putfield 93, 3) := dk_181 0 93 (dk_at dksX0_init_8 2 rfl rfl)
theorem dX0_init_191 : decode cX0_init 191 = .ok (.aload_n 0, 1) := dk_42 (dk_at dksX0_init_8 5 rfl rfl)
theorem dX0_init_192 : decode cX0_init 192 = .ok (.iconst 3, 1) := dk_6 (dk_at dksX0_init_8 6 rfl rfl)
theorem dX0_init_193 : decode cX0_init 193 = .ok (.anewarray 24, 3) := dk_189 0 24 (dk_at dksX0_init_8 7 rfl rfl)
theorem dX0_init_196 : decode cX0_init 196 = .ok (.putfield 96, 3) := dk_181 0 96 (dk_at dksX0_init_8 10 rfl rfl)
theorem dX0_init_199 : decode cX0_init 199 = .ok (.aload_n 0, 1) := dk_42 (dk_at dksX0_init_8 13 rfl rfl)
theorem dX0_init_200 : decode cX0_init 200 = .ok (.iconst 3, 1) := dk_6 (dk_at dksX0_init_8 14 rfl rfl)
theorem dX0_init_201 : decode cX0_init 201 = .ok (.newarray .boolean, 2) := dk_188_4 (dk_at dksX0_init_8 15 rfl rfl)
theorem dX0_init_203 : decode cX0_init 203 = .ok (.putfield 99, 3) := dk_181 0 99 (dk_at dksX0_init_8 17 rfl rfl)
theorem dX0_init_206 : decode cX0_init 206 = .ok (.iconst 0, 1) := dk_3 (dk_at dksX0_init_8 20 rfl rfl)
theorem dX0_init_207 : decode cX0_init 207 = .ok (.istore_n 1, 1) := dk_60 (dk_at dksX0_init_8 21 rfl rfl)
theorem dX0_init_208 : decode cX0_init 208 = .ok (.iload_n 1, 1) := dk_27 (dk_at dksX0_init_8 22 rfl rfl)
theorem dX0_init_209 : decode cX0_init 209 = .ok (.bipush 40, 2) := dk_16 40 (dk_at dksX0_init_9 0 rfl rfl)
theorem dX0_init_211 : decode cX0_init 211 = .ok (.if_icmp .ge 22, 3) := dk_162 0 22 (dk_at dksX0_init_9 2 rfl rfl)
theorem dX0_init_214 : decode cX0_init 214 = .ok (.aload_n 0, 1) := dk_42 (dk_at dksX0_init_9 5 rfl rfl)
theorem dX0_init_215 : decode cX0_init 215 = .ok (.getfield 38, 3) := dk_180 0 38 (dk_at dksX0_init_9 6 rfl rfl)
theorem dX0_init_218 : decode cX0_init 218 = .ok (.iload_n 1, 1) := dk_27 (dk_at dksX0_init_9 9 rfl rfl)
theorem dX0_init_219 : decode cX0_init 219 = .ok (.new 24, 3) := dk_187 0 24 (dk_at dksX0_init_9 10 rfl rfl)
theorem dX0_init_222 : decode cX0_init 222 = .ok (.dup, 1) := dk_89 (dk_at dksX0_init_9 13 rfl rfl)
theorem dX0_init_223 : decode cX0_init 223 = .ok (.invokespecial 26, 3) := dk_183 0 26 (dk_at dksX0_init_9 14 rfl rfl)
theorem dX0_init_226 : decode cX0_init 226 = .ok (.aastore, 1) := dk_83 (dk_at dksX0_init_9 17 rfl rfl)
theorem dX0_init_227 : decode cX0_init 227 = .ok (.iinc 1 1, 3) := dk_132 1 1 (dk_at dksX0_init_9 18 rfl rfl)
theorem dX0_init_230 : decode cX0_init 230 = .ok (.goto (-22), 3) := dk_167 255 234 (dk_at dksX0_init_9 21 rfl rfl)
theorem dX0_init_233 : decode cX0_init 233 = .ok (.iconst 0, 1) := dk_3 (dk_at dksX0_init_10 0 rfl rfl)
theorem dX0_init_234 : decode cX0_init 234 = .ok (.istore_n 1, 1) := dk_60 (dk_at dksX0_init_10 1 rfl rfl)
theorem dX0_init_235 : decode cX0_init 235 = .ok (.iload_n 1, 1) := dk_27 (dk_at dksX0_init_10 2 rfl rfl)
theorem dX0_init_236 : decode cX0_init 236 = .ok (.iconst 3, 1) := dk_6 (dk_at dksX0_init_10 3 rfl rfl)
theorem dX0_init_237 : decode cX0_init 237 = .ok (.if_icmp .ge 22, 3) := dk_162 0 22 (dk_at dksX0_init_10 4 rfl rfl)
theorem dX0_init_240 : decode cX0_init 240 = .ok (.aload_n 0, 1) := dk_42 (dk_at dksX0_init_10 7 rfl rfl)
theorem dX0_init_241 : decode cX0_init 241 = .ok (.getfield 96, 3) := dk_180 0 96 (dk_at dksX0_init_10 8 rfl rfl)
theorem dX0_init_244 : decode cX0_init 244 = .ok (.iload_n 1, 1) := dk_27 (dk_at dksX0_init_10 11 rfl rfl)
theorem dX0_init_245 : decode cX0_init 245 = .ok (.new 24, 3) := dk_187 0 24 (dk_at dksX0_init_10 12 rfl rfl)
theorem dX0_init_248 : decode cX0_init 248 = .ok (.dup, 1) := dk_89 (dk_at dksX0_init_10 15 rfl rfl)
theorem dX0_init_249 : decode cX0_init 249 = .ok (.invokespecial 26, 3) := dk_183 0 26 (dk_at dksX0_init_10 16 rfl rfl)
theorem dX0_init_252 : decode cX0_init 252 = .ok (.aastore, 1) := dk_83 (dk_at dksX0_init_10 19 rfl rfl)
theorem dX0_init_253 : decode cX0_init 253 = .ok (.iinc 1 1, 3) := dk_132 1 1 (dk_at dksX0_init_10 20 rfl rfl)
theorem dX0_init_256 : decode cX0_init 256 = .ok (.goto (-21), 3) := dk_167 255 235 (dk_at dksX0_init_11 0 rfl rfl)
theorem dX0_init_259 : decode cX0_init 259 = .ok (.return_, 1) := dk_177 (dk_at dksX0_init_11 3 rfl rfl)
abbrev cX0_feed : ByteArray := prog_1_method_3_code
def yX0_feed : MethodName := ⟨RX0, "feed", "(IIIII)I"⟩
def dkwX0_feed_5 : List UInt8 := [172]
abbrev dktX0_feed_5 : List UInt8 := dkwX0_feed_5 ++ []
def dkwX0_feed_4 : List UInt8 := [180, 0, 103, 4, 96, 181, 0, 103, 132, 11, 248, 167, 255, 223, 132, 9, 1, 167, 255, 199, 42, 180, 0, 103]
abbrev dktX0_feed_4 : List UInt8 := dkwX0_feed_4 ++ dktX0_feed_5
def dkwX0_feed_3 : List UInt8 := [21, 11, 155, 0, 34, 42, 180, 0, 9, 42, 180, 0, 103, 21, 10, 21, 11, 122, 145, 84, 42, 89]
abbrev dktX0_feed_3 : List UInt8 := dkwX0_feed_3 ++ dktX0_feed_4
def dkwX0_feed_2 : List UInt8 := [190, 54, 8, 3, 54, 9, 21, 9, 21, 8, 162, 0, 56, 25, 7, 21, 9, 46, 54, 10, 16, 24, 54, 11]
abbrev dktX0_feed_2 : List UInt8 := dkwX0_feed_2 ++ dktX0_feed_3
def dkwX0_feed_1 : List UInt8 := [28, 79, 89, 5, 29, 79, 89, 6, 21, 4, 79, 89, 7, 21, 5, 79, 58, 6, 25, 6, 58, 7, 25, 7]
abbrev dktX0_feed_1 : List UInt8 := dkwX0_feed_1 ++ dktX0_feed_2
def dkwX0_feed_0 : List UInt8 := [42, 180, 0, 103, 16, 20, 96, 17, 6, 64, 164, 0, 5, 2, 172, 8, 188, 10, 89, 3, 27, 79, 89, 4]
abbrev dktX0_feed_0 : List UInt8 := dkwX0_feed_0 ++ dktX0_feed_1
theorem dksX0_feed_0 : cX0_feed.data.toList.drop 0 = dktX0_feed_0 := by decide +kernel
theorem dksX0_feed_1 : cX0_feed.data.toList.drop 24 = dktX0_feed_1 := dk_seg dksX0_feed_0 24 rfl rfl
theorem dksX0_feed_2 : cX0_feed.data.toList.drop 48 = dktX0_feed_2 := dk_seg dksX0_feed_1 24 rfl rfl
theorem dksX0_feed_3 : cX0_feed.data.toList.drop 72 = dktX0_feed_3 := dk_seg dksX0_feed_2 24 rfl rfl
theorem dksX0_feed_4 : cX0_feed.data.toList.drop 94 = dktX0_feed_4 := dk_seg dksX0_feed_3 22 rfl rfl
theorem dksX0_feed_5 : cX0_feed.data.toList.drop 118 = dktX0_feed_5 := dk_seg dksX0_feed_4 24 rfl rfl
theorem dX0_feed_0 : decode cX0_feed 0 = .ok (.aload_n 0, 1) := dk_42 (dk_at dksX0_feed_0 0 rfl rfl)
theorem dX0_feed_1 : decode cX0_feed 1 = .ok (.getfield 103, 3) := dk_180 0 103 (dk_at dksX0_feed_0 1 rfl rfl)
theorem dX0_feed_4 : decode cX0_feed 4 = .ok (.bipush 20, 2) := dk_16 20 (dk_at dksX0_feed_0 4 rfl rfl)
theorem dX0_feed_6 : decode cX0_feed 6 = .ok (.iadd, 1) := dk_96 (dk_at dksX0_feed_0 6 rfl rfl)
theorem dX0_feed_7 : decode cX0_feed 7 = .ok (.sipush 1600, 3) := dk_17 6 64 (dk_at dksX0_feed_0 7 rfl rfl)
theorem dX0_feed_10 : decode cX0_feed 10 = .ok (.if_icmp .le 5, 3) := dk_164 0 5 (dk_at dksX0_feed_0 10 rfl rfl)
theorem dX0_feed_13 : decode cX0_feed 13 = .ok (.iconst (-1), 1) := dk_2 (dk_at dksX0_feed_0 13 rfl rfl)
theorem dX0_feed_14 : decode cX0_feed 14 = .ok (.ireturn, 1) := dk_172 (dk_at dksX0_feed_0 14 rfl rfl)
theorem dX0_feed_15 : decode cX0_feed 15 = .ok (.iconst 5, 1) := dk_8 (dk_at dksX0_feed_0 15 rfl rfl)
theorem dX0_feed_16 : decode cX0_feed 16 = .ok (.newarray .int, 2) := dk_188_10 (dk_at dksX0_feed_0 16 rfl rfl)
theorem dX0_feed_18 : decode cX0_feed 18 = .ok (.dup, 1) := dk_89 (dk_at dksX0_feed_0 18 rfl rfl)
theorem dX0_feed_19 : decode cX0_feed 19 = .ok (.iconst 0, 1) := dk_3 (dk_at dksX0_feed_0 19 rfl rfl)
theorem dX0_feed_20 : decode cX0_feed 20 = .ok (.iload_n 1, 1) := dk_27 (dk_at dksX0_feed_0 20 rfl rfl)
theorem dX0_feed_21 : decode cX0_feed 21 = .ok (.iastore, 1) := dk_79 (dk_at dksX0_feed_0 21 rfl rfl)
theorem dX0_feed_22 : decode cX0_feed 22 = .ok (.dup, 1) := dk_89 (dk_at dksX0_feed_0 22 rfl rfl)
theorem dX0_feed_23 : decode cX0_feed 23 = .ok (.iconst 1, 1) := dk_4 (dk_at dksX0_feed_0 23 rfl rfl)
theorem dX0_feed_24 : decode cX0_feed 24 = .ok (.iload_n 2, 1) := dk_28 (dk_at dksX0_feed_1 0 rfl rfl)
theorem dX0_feed_25 : decode cX0_feed 25 = .ok (.iastore, 1) := dk_79 (dk_at dksX0_feed_1 1 rfl rfl)
theorem dX0_feed_26 : decode cX0_feed 26 = .ok (.dup, 1) := dk_89 (dk_at dksX0_feed_1 2 rfl rfl)
theorem dX0_feed_27 : decode cX0_feed 27 = .ok (.iconst 2, 1) := dk_5 (dk_at dksX0_feed_1 3 rfl rfl)
theorem dX0_feed_28 : decode cX0_feed 28 = .ok (.iload_n 3, 1) := dk_29 (dk_at dksX0_feed_1 4 rfl rfl)
theorem dX0_feed_29 : decode cX0_feed 29 = .ok (.iastore, 1) := dk_79 (dk_at dksX0_feed_1 5 rfl rfl)
theorem dX0_feed_30 : decode cX0_feed 30 = .ok (.dup, 1) := dk_89 (dk_at dksX0_feed_1 6 rfl rfl)
theorem dX0_feed_31 : decode cX0_feed 31 = .ok (.iconst 3, 1) := dk_6 (dk_at dksX0_feed_1 7 rfl rfl)
theorem dX0_feed_32 : decode cX0_feed 32 = .ok (.iload 4, 2) := dk_21 4 (dk_at dksX0_feed_1 8 rfl rfl)
theorem dX0_feed_34 : decode cX0_feed 34 = .ok (.iastore, 1) := dk_79 (dk_at dksX0_feed_1 10 rfl rfl)
theorem dX0_feed_35 : decode cX0_feed 35 = .ok (.dup, 1) := dk_89 (dk_at dksX0_feed_1 11 rfl rfl)
theorem dX0_feed_36 : decode cX0_feed 36 = .ok (.iconst 4, 1) := dk_7 (dk_at dksX0_feed_1 12 rfl rfl)
theorem dX0_feed_37 : decode cX0_feed 37 = .ok (.iload 5, 2) := dk_21 5 (dk_at dksX0_feed_1 13 rfl rfl)
theorem dX0_feed_39 : decode cX0_feed 39 = .ok (.iastore, 1) := dk_79 (dk_at dksX0_feed_1 15 rfl rfl)
theorem dX0_feed_40 : decode cX0_feed 40 = .ok (.astore 6, 2) := dk_58 6 (dk_at dksX0_feed_1 16 rfl rfl)
theorem dX0_feed_42 : decode cX0_feed 42 = .ok (.aload 6, 2) := dk_25 6 (dk_at dksX0_feed_1 18 rfl rfl)
theorem dX0_feed_44 : decode cX0_feed 44 = .ok (.astore 7, 2) := dk_58 7 (dk_at dksX0_feed_1 20 rfl rfl)
theorem dX0_feed_46 : decode cX0_feed 46 = .ok (.aload 7, 2) := dk_25 7 (dk_at dksX0_feed_1 22 rfl rfl)
theorem dX0_feed_48 : decode cX0_feed 48 = .ok (.arraylength, 1) := dk_190 (dk_at dksX0_feed_2 0 rfl rfl)
theorem dX0_feed_49 : decode cX0_feed 49 = .ok (.istore 8, 2) := dk_54 8 (dk_at dksX0_feed_2 1 rfl rfl)
theorem dX0_feed_51 : decode cX0_feed 51 = .ok (.iconst 0, 1) := dk_3 (dk_at dksX0_feed_2 3 rfl rfl)
theorem dX0_feed_52 : decode cX0_feed 52 = .ok (.istore 9, 2) := dk_54 9 (dk_at dksX0_feed_2 4 rfl rfl)
theorem dX0_feed_54 : decode cX0_feed 54 = .ok (.iload 9, 2) := dk_21 9 (dk_at dksX0_feed_2 6 rfl rfl)
theorem dX0_feed_56 : decode cX0_feed 56 = .ok (.iload 8, 2) := dk_21 8 (dk_at dksX0_feed_2 8 rfl rfl)
theorem dX0_feed_58 : decode cX0_feed 58 = .ok (.if_icmp .ge 56, 3) := dk_162 0 56 (dk_at dksX0_feed_2 10 rfl rfl)
theorem dX0_feed_61 : decode cX0_feed 61 = .ok (.aload 7, 2) := dk_25 7 (dk_at dksX0_feed_2 13 rfl rfl)
theorem dX0_feed_63 : decode cX0_feed 63 = .ok (.iload 9, 2) := dk_21 9 (dk_at dksX0_feed_2 15 rfl rfl)
theorem dX0_feed_65 : decode cX0_feed 65 = .ok (.iaload, 1) := dk_46 (dk_at dksX0_feed_2 17 rfl rfl)
theorem dX0_feed_66 : decode cX0_feed 66 = .ok (.istore 10, 2) := dk_54 10 (dk_at dksX0_feed_2 18 rfl rfl)
theorem dX0_feed_68 : decode cX0_feed 68 = .ok (.bipush 24, 2) := dk_16 24 (dk_at dksX0_feed_2 20 rfl rfl)
theorem dX0_feed_70 : decode cX0_feed 70 = .ok (.istore 11, 2) := dk_54 11 (dk_at dksX0_feed_2 22 rfl rfl)
theorem dX0_feed_72 : decode cX0_feed 72 = .ok (.iload 11, 2) := dk_21 11 (dk_at dksX0_feed_3 0 rfl rfl)
theorem dX0_feed_74 : decode cX0_feed 74 = .ok (.ifCond .lt 34, 3) := dk_155 0 34 (dk_at dksX0_feed_3 2 rfl rfl)
theorem dX0_feed_77 : decode cX0_feed 77 = .ok (.aload_n 0, 1) := dk_42 (dk_at dksX0_feed_3 5 rfl rfl)
theorem dX0_feed_78 : decode cX0_feed 78 = .ok (.getfield 9, 3) := dk_180 0 9 (dk_at dksX0_feed_3 6 rfl rfl)
theorem dX0_feed_81 : decode cX0_feed 81 = .ok (.aload_n 0, 1) := dk_42 (dk_at dksX0_feed_3 9 rfl rfl)
theorem dX0_feed_82 : decode cX0_feed 82 = .ok (.getfield 103, 3) := dk_180 0 103 (dk_at dksX0_feed_3 10 rfl rfl)
theorem dX0_feed_85 : decode cX0_feed 85 = .ok (.iload 10, 2) := dk_21 10 (dk_at dksX0_feed_3 13 rfl rfl)
theorem dX0_feed_87 : decode cX0_feed 87 = .ok (.iload 11, 2) := dk_21 11 (dk_at dksX0_feed_3 15 rfl rfl)
theorem dX0_feed_89 : decode cX0_feed 89 = .ok (.ishr, 1) := dk_122 (dk_at dksX0_feed_3 17 rfl rfl)
theorem dX0_feed_90 : decode cX0_feed 90 = .ok (.i2b, 1) := dk_145 (dk_at dksX0_feed_3 18 rfl rfl)
theorem dX0_feed_91 : decode cX0_feed 91 = .ok (.bastore, 1) := dk_84 (dk_at dksX0_feed_3 19 rfl rfl)
theorem dX0_feed_92 : decode cX0_feed 92 = .ok (.aload_n 0, 1) := dk_42 (dk_at dksX0_feed_3 20 rfl rfl)
theorem dX0_feed_93 : decode cX0_feed 93 = .ok (.dup, 1) := dk_89 (dk_at dksX0_feed_3 21 rfl rfl)
theorem dX0_feed_94 : decode cX0_feed 94 = .ok (.getfield 103, 3) := dk_180 0 103 (dk_at dksX0_feed_4 0 rfl rfl)
theorem dX0_feed_97 : decode cX0_feed 97 = .ok (.iconst 1, 1) := dk_4 (dk_at dksX0_feed_4 3 rfl rfl)
theorem dX0_feed_98 : decode cX0_feed 98 = .ok (.iadd, 1) := dk_96 (dk_at dksX0_feed_4 4 rfl rfl)
theorem dX0_feed_99 : decode cX0_feed 99 = .ok (.putfield 103, 3) := dk_181 0 103 (dk_at dksX0_feed_4 5 rfl rfl)
theorem dX0_feed_102 : decode cX0_feed 102 = .ok (.iinc 11 (-8), 3) := dk_132 11 248 (dk_at dksX0_feed_4 8 rfl rfl)
theorem dX0_feed_105 : decode cX0_feed 105 = .ok (.goto (-33), 3) := dk_167 255 223 (dk_at dksX0_feed_4 11 rfl rfl)
theorem dX0_feed_108 : decode cX0_feed 108 = .ok (.iinc 9 1, 3) := dk_132 9 1 (dk_at dksX0_feed_4 14 rfl rfl)
theorem dX0_feed_111 : decode cX0_feed 111 = .ok (.goto (-57), 3) := dk_167 255 199 (dk_at dksX0_feed_4 17 rfl rfl)
theorem dX0_feed_114 : decode cX0_feed 114 = .ok (.aload_n 0, 1) := dk_42 (dk_at dksX0_feed_4 20 rfl rfl)
theorem dX0_feed_115 : decode cX0_feed 115 = .ok (.getfield 103, 3) := dk_180 0 103 (dk_at dksX0_feed_4 21 rfl rfl)
theorem dX0_feed_118 : decode cX0_feed 118 = .ok (.ireturn, 1) := dk_172 (dk_at dksX0_feed_5 0 rfl rfl)
abbrev cX0_end : ByteArray := prog_1_method_4_code
def yX0_end : MethodName := ⟨RX0, "end", "(I)I"⟩
def dkwX0_end_0 : List UInt8 := [27, 155, 0, 11, 27, 42, 180, 0, 103, 164, 0, 5, 2, 172, 42, 27, 181, 0, 103, 27, 172]
abbrev dktX0_end_0 : List UInt8 := dkwX0_end_0 ++ []
theorem dksX0_end_0 : cX0_end.data.toList.drop 0 = dktX0_end_0 := by decide +kernel
theorem dX0_end_0 : decode cX0_end 0 = .ok (.iload_n 1, 1) := dk_27 (dk_at dksX0_end_0 0 rfl rfl)
theorem dX0_end_1 : decode cX0_end 1 = .ok (.ifCond .lt 11, 3) := dk_155 0 11 (dk_at dksX0_end_0 1 rfl rfl)
theorem dX0_end_4 : decode cX0_end 4 = .ok (.iload_n 1, 1) := dk_27 (dk_at dksX0_end_0 4 rfl rfl)
theorem dX0_end_5 : decode cX0_end 5 = .ok (.aload_n 0, 1) := dk_42 (dk_at dksX0_end_0 5 rfl rfl)
theorem dX0_end_6 : decode cX0_end 6 = .ok (.getfield 103, 3) := dk_180 0 103 (dk_at dksX0_end_0 6 rfl rfl)
theorem dX0_end_9 : decode cX0_end 9 = .ok (.if_icmp .le 5, 3) := dk_164 0 5 (dk_at dksX0_end_0 9 rfl rfl)
theorem dX0_end_12 : decode cX0_end 12 = .ok (.iconst (-1), 1) := dk_2 (dk_at dksX0_end_0 12 rfl rfl)
theorem dX0_end_13 : decode cX0_end 13 = .ok (.ireturn, 1) := dk_172 (dk_at dksX0_end_0 13 rfl rfl)
theorem dX0_end_14 : decode cX0_end 14 = .ok (.aload_n 0, 1) := dk_42 (dk_at dksX0_end_0 14 rfl rfl)
theorem dX0_end_15 : decode cX0_end 15 = .ok (.iload_n 1, 1) := dk_27 (dk_at dksX0_end_0 15 rfl rfl)
theorem dX0_end_16 : decode cX0_end 16 = .ok (.putfield 103, 3) := dk_181 0 103 (dk_at dksX0_end_0 16 rfl rfl)
theorem dX0_end_19 : decode cX0_end 19 = .ok (.iload_n 1, 1) := dk_27 (dk_at dksX0_end_0 19 rfl rfl)
theorem dX0_end_20 : decode cX0_end 20 = .ok (.ireturn, 1) := dk_172 (dk_at dksX0_end_0 20 rfl rfl)
abbrev cX0_chancery : ByteArray := prog_1_method_5_code
def yX0_chancery : MethodName := ⟨RX0, "chancery", "()I"⟩
def dkwX0_chancery_5 : List UInt8 := [43, 199, 0, 10, 42, 182, 0, 138, 167, 0, 4, 2, 172]
abbrev dktX0_chancery_5 : List UInt8 := dkwX0_chancery_5 ++ []
def dkwX0_chancery_4 : List UInt8 := [181, 0, 132, 42, 43, 199, 0, 7, 2, 167, 0, 7, 43, 180, 0, 135, 181, 0, 13, 42, 3, 181, 0, 103]
abbrev dktX0_chancery_4 : List UInt8 := dkwX0_chancery_4 ++ dktX0_chancery_5
def dkwX0_chancery_3 : List UInt8 := [167, 255, 241, 167, 0, 6, 77, 44, 76, 42, 43, 199, 0, 7, 3, 167, 0, 7, 43, 180, 0, 129]
abbrev dktX0_chancery_3 : List UInt8 := dkwX0_chancery_3 ++ dktX0_chancery_4
def dkwX0_chancery_2 : List UInt8 := [180, 0, 74, 182, 0, 124, 3, 61, 28, 6, 162, 0, 16, 42, 180, 0, 99, 28, 3, 84, 132, 2, 1]
abbrev dktX0_chancery_2 : List UInt8 := dkwX0_chancery_2 ++ dktX0_chancery_3
def dkwX0_chancery_1 : List UInt8 := [180, 0, 20, 182, 0, 27, 87, 42, 3, 181, 0, 115, 42, 3, 181, 0, 118, 42, 3, 181, 0, 121, 42]
abbrev dktX0_chancery_1 : List UInt8 := dkwX0_chancery_1 ++ dktX0_chancery_2
def dkwX0_chancery_0 : List UInt8 := [1, 76, 42, 187, 0, 106, 89, 42, 183, 0, 108, 182, 0, 111, 181, 0, 20, 42, 180, 0, 31, 42]
abbrev dktX0_chancery_0 : List UInt8 := dkwX0_chancery_0 ++ dktX0_chancery_1
theorem dksX0_chancery_0 : cX0_chancery.data.toList.drop 0 = dktX0_chancery_0 := by decide +kernel
theorem dksX0_chancery_1 : cX0_chancery.data.toList.drop 22 = dktX0_chancery_1 := dk_seg dksX0_chancery_0 22 rfl rfl
theorem dksX0_chancery_2 : cX0_chancery.data.toList.drop 45 = dktX0_chancery_2 := dk_seg dksX0_chancery_1 23 rfl rfl
theorem dksX0_chancery_3 : cX0_chancery.data.toList.drop 68 = dktX0_chancery_3 := dk_seg dksX0_chancery_2 23 rfl rfl
theorem dksX0_chancery_4 : cX0_chancery.data.toList.drop 90 = dktX0_chancery_4 := dk_seg dksX0_chancery_3 22 rfl rfl
theorem dksX0_chancery_5 : cX0_chancery.data.toList.drop 114 = dktX0_chancery_5 := dk_seg dksX0_chancery_4 24 rfl rfl
theorem dX0_chancery_0 : decode cX0_chancery 0 = .ok (.aconst_null, 1) := dk_1 (dk_at dksX0_chancery_0 0 rfl rfl)
theorem dX0_chancery_1 : decode cX0_chancery 1 = .ok (.astore_n 1, 1) := dk_76 (dk_at dksX0_chancery_0 1 rfl rfl)
theorem dX0_chancery_2 : decode cX0_chancery 2 = .ok (.aload_n 0, 1) := dk_42 (dk_at dksX0_chancery_0 2 rfl rfl)
theorem dX0_chancery_3 : decode cX0_chancery 3 = .ok (.new 106, 3) := dk_187 0 106 (dk_at dksX0_chancery_0 3 rfl rfl)
theorem dX0_chancery_6 : decode cX0_chancery 6 = .ok (.dup, 1) := dk_89 (dk_at dksX0_chancery_0 6 rfl rfl)
theorem dX0_chancery_7 : decode cX0_chancery 7 = .ok (.aload_n 0, 1) := dk_42 (dk_at dksX0_chancery_0 7 rfl rfl)
theorem dX0_chancery_8 : decode cX0_chancery 8 = .ok (.invokespecial 108, 3) := dk_183 0 108 (dk_at dksX0_chancery_0 8 rfl rfl)
theorem dX0_chancery_11 : decode cX0_chancery 11 = .ok (.invokevirtual 111, 3) := dk_182 0 111 (dk_at dksX0_chancery_0 11 rfl rfl)
theorem dX0_chancery_14 : decode cX0_chancery 14 = .ok (.putfield 20, 3) := dk_181 0 20 (dk_at dksX0_chancery_0 14 rfl rfl)
theorem dX0_chancery_17 : decode cX0_chancery 17 = .ok (.aload_n 0, 1) := dk_42 (dk_at dksX0_chancery_0 17 rfl rfl)
theorem dX0_chancery_18 : decode cX0_chancery 18 = .ok (.getfield 31, 3) := dk_180 0 31 (dk_at dksX0_chancery_0 18 rfl rfl)
theorem dX0_chancery_21 : decode cX0_chancery 21 = .ok (.aload_n 0, 1) := dk_42 (dk_at dksX0_chancery_0 21 rfl rfl)
theorem dX0_chancery_22 : decode cX0_chancery 22 = .ok (.getfield 20, 3) := dk_180 0 20 (dk_at dksX0_chancery_1 0 rfl rfl)
theorem dX0_chancery_25 : decode cX0_chancery 25 = .ok (.invokevirtual 27, 3) := dk_182 0 27 (dk_at dksX0_chancery_1 3 rfl rfl)
theorem dX0_chancery_28 : decode cX0_chancery 28 = .ok (.pop, 1) := dk_87 (dk_at dksX0_chancery_1 6 rfl rfl)
theorem dX0_chancery_29 : decode cX0_chancery 29 = .ok (.aload_n 0, 1) := dk_42 (dk_at dksX0_chancery_1 7 rfl rfl)
theorem dX0_chancery_30 : decode cX0_chancery 30 = .ok (.iconst 0, 1) := dk_3 (dk_at dksX0_chancery_1 8 rfl rfl)
theorem dX0_chancery_31 : decode cX0_chancery 31 = .ok (.putfield 115, 3) := dk_181 0 115 (dk_at dksX0_chancery_1 9 rfl rfl)
theorem dX0_chancery_34 : decode cX0_chancery 34 = .ok (.aload_n 0, 1) := dk_42 (dk_at dksX0_chancery_1 12 rfl rfl)
theorem dX0_chancery_35 : decode cX0_chancery 35 = .ok (.iconst 0, 1) := dk_3 (dk_at dksX0_chancery_1 13 rfl rfl)
theorem dX0_chancery_36 : decode cX0_chancery 36 = .ok (.putfield 118, 3) := dk_181 0 118 (dk_at dksX0_chancery_1 14 rfl rfl)
theorem dX0_chancery_39 : decode cX0_chancery 39 = .ok (.aload_n 0, 1) := dk_42 (dk_at dksX0_chancery_1 17 rfl rfl)
theorem dX0_chancery_40 : decode cX0_chancery 40 = .ok (.iconst 0, 1) := dk_3 (dk_at dksX0_chancery_1 18 rfl rfl)
theorem dX0_chancery_41 : decode cX0_chancery 41 = .ok (.putfield 121, 3) := dk_181 0 121 (dk_at dksX0_chancery_1 19 rfl rfl)
theorem dX0_chancery_44 : decode cX0_chancery 44 = .ok (.aload_n 0, 1) := dk_42 (dk_at dksX0_chancery_1 22 rfl rfl)
theorem dX0_chancery_45 : decode cX0_chancery 45 = .ok (.getfield 74, 3) := dk_180 0 74 (dk_at dksX0_chancery_2 0 rfl rfl)
theorem dX0_chancery_48 : decode cX0_chancery 48 = .ok (.invokevirtual 124, 3) := dk_182 0 124 (dk_at dksX0_chancery_2 3 rfl rfl)
theorem dX0_chancery_51 : decode cX0_chancery 51 = .ok (.iconst 0, 1) := dk_3 (dk_at dksX0_chancery_2 6 rfl rfl)
theorem dX0_chancery_52 : decode cX0_chancery 52 = .ok (.istore_n 2, 1) := dk_61 (dk_at dksX0_chancery_2 7 rfl rfl)
theorem dX0_chancery_53 : decode cX0_chancery 53 = .ok (.iload_n 2, 1) := dk_28 (dk_at dksX0_chancery_2 8 rfl rfl)
theorem dX0_chancery_54 : decode cX0_chancery 54 = .ok (.iconst 3, 1) := dk_6 (dk_at dksX0_chancery_2 9 rfl rfl)
theorem dX0_chancery_55 : decode cX0_chancery 55 = .ok (.if_icmp .ge 16, 3) := dk_162 0 16 (dk_at dksX0_chancery_2 10 rfl rfl)
theorem dX0_chancery_58 : decode cX0_chancery 58 = .ok (.aload_n 0, 1) := dk_42 (dk_at dksX0_chancery_2 13 rfl rfl)
theorem dX0_chancery_59 : decode cX0_chancery 59 = .ok (.getfield 99, 3) := dk_180 0 99 (dk_at dksX0_chancery_2 14 rfl rfl)
theorem dX0_chancery_62 : decode cX0_chancery 62 = .ok (.iload_n 2, 1) := dk_28 (dk_at dksX0_chancery_2 17 rfl rfl)
theorem dX0_chancery_63 : decode cX0_chancery 63 = .ok (.iconst 0, 1) := dk_3 (dk_at dksX0_chancery_2 18 rfl rfl)
theorem dX0_chancery_64 : decode cX0_chancery 64 = .ok (.bastore, 1) := dk_84 (dk_at dksX0_chancery_2 19 rfl rfl)
theorem dX0_chancery_65 : decode cX0_chancery 65 = .ok (.iinc 2 1, 3) := dk_132 2 1 (dk_at dksX0_chancery_2 20 rfl rfl)
theorem dX0_chancery_68 : decode cX0_chancery 68 = .ok (.goto (-15), 3) := dk_167 255 241 (dk_at dksX0_chancery_3 0 rfl rfl)
theorem dX0_chancery_71 : decode cX0_chancery 71 = .ok (.goto 6, 3) := dk_167 0 6 (dk_at dksX0_chancery_3 3 rfl rfl)
theorem dX0_chancery_74 : decode cX0_chancery 74 = .ok (.astore_n 2, 1) := dk_77 (dk_at dksX0_chancery_3 6 rfl rfl)
theorem dX0_chancery_75 : decode cX0_chancery 75 = .ok (.aload_n 2, 1) := dk_44 (dk_at dksX0_chancery_3 7 rfl rfl)
theorem dX0_chancery_76 : decode cX0_chancery 76 = .ok (.astore_n 1, 1) := dk_76 (dk_at dksX0_chancery_3 8 rfl rfl)
theorem dX0_chancery_77 : decode cX0_chancery 77 = .ok (.aload_n 0, 1) := dk_42 (dk_at dksX0_chancery_3 9 rfl rfl)
theorem dX0_chancery_78 : decode cX0_chancery 78 = .ok (.aload_n 1, 1) := dk_43 (dk_at dksX0_chancery_3 10 rfl rfl)
theorem dX0_chancery_79 : decode cX0_chancery 79 = .ok (.ifnonnull 7, 3) := dk_199 0 7 (dk_at dksX0_chancery_3 11 rfl rfl)
theorem dX0_chancery_82 : decode cX0_chancery 82 = .ok (.iconst 0, 1) := dk_3 (dk_at dksX0_chancery_3 14 rfl rfl)
theorem dX0_chancery_83 : decode cX0_chancery 83 = .ok (.goto 7, 3) := dk_167 0 7 (dk_at dksX0_chancery_3 15 rfl rfl)
theorem dX0_chancery_86 : decode cX0_chancery 86 = .ok (.aload_n 1, 1) := dk_43 (dk_at dksX0_chancery_3 18 rfl rfl)
theorem dX0_chancery_87 : decode cX0_chancery 87 = .ok (.getfield 129, 3) := dk_180 0 129 (dk_at dksX0_chancery_3 19 rfl rfl)
theorem dX0_chancery_90 : decode cX0_chancery 90 = .ok (.putfield 132, 3) := dk_181 0 132 (dk_at dksX0_chancery_4 0 rfl rfl)
theorem dX0_chancery_93 : decode cX0_chancery 93 = .ok (.aload_n 0, 1) := dk_42 (dk_at dksX0_chancery_4 3 rfl rfl)
theorem dX0_chancery_94 : decode cX0_chancery 94 = .ok (.aload_n 1, 1) := dk_43 (dk_at dksX0_chancery_4 4 rfl rfl)
theorem dX0_chancery_95 : decode cX0_chancery 95 = .ok (.ifnonnull 7, 3) := dk_199 0 7 (dk_at dksX0_chancery_4 5 rfl rfl)
theorem dX0_chancery_98 : decode cX0_chancery 98 = .ok (.iconst (-1), 1) := dk_2 (dk_at dksX0_chancery_4 8 rfl rfl)
theorem dX0_chancery_99 : decode cX0_chancery 99 = .ok (.goto 7, 3) := dk_167 0 7 (dk_at dksX0_chancery_4 9 rfl rfl)
theorem dX0_chancery_102 : decode cX0_chancery 102 = .ok (.aload_n 1, 1) := dk_43 (dk_at dksX0_chancery_4 12 rfl rfl)
theorem dX0_chancery_103 : decode cX0_chancery 103 = .ok (.getfield 135, 3) := dk_180 0 135 (dk_at dksX0_chancery_4 13 rfl rfl)
theorem dX0_chancery_106 : decode cX0_chancery 106 = .ok (.putfield 13, 3) := dk_181 0 13 (dk_at dksX0_chancery_4 16 rfl rfl)
theorem dX0_chancery_109 : decode cX0_chancery 109 = .ok (.aload_n 0, 1) := dk_42 (dk_at dksX0_chancery_4 19 rfl rfl)
theorem dX0_chancery_110 : decode cX0_chancery 110 = .ok (.iconst 0, 1) := dk_3 (dk_at dksX0_chancery_4 20 rfl rfl)
theorem dX0_chancery_111 : decode cX0_chancery 111 = .ok (.putfield 103, 3) := dk_181 0 103 (dk_at dksX0_chancery_4 21 rfl rfl)
theorem dX0_chancery_114 : decode cX0_chancery 114 = .ok (.aload_n 1, 1) := dk_43 (dk_at dksX0_chancery_5 0 rfl rfl)
theorem dX0_chancery_115 : decode cX0_chancery 115 = .ok (.ifnonnull 10, 3) := dk_199 0 10 (dk_at dksX0_chancery_5 1 rfl rfl)
theorem dX0_chancery_118 : decode cX0_chancery 118 = .ok (.aload_n 0, 1) := dk_42 (dk_at dksX0_chancery_5 4 rfl rfl)
theorem dX0_chancery_119 : decode cX0_chancery 119 = .ok (.invokevirtual 138, 3) := dk_182 0 138 (dk_at dksX0_chancery_5 5 rfl rfl)
theorem dX0_chancery_122 : decode cX0_chancery 122 = .ok (.goto 4, 3) := dk_167 0 4 (dk_at dksX0_chancery_5 8 rfl rfl)
theorem dX0_chancery_125 : decode cX0_chancery 125 = .ok (.iconst (-1), 1) := dk_2 (dk_at dksX0_chancery_5 11 rfl rfl)
theorem dX0_chancery_126 : decode cX0_chancery 126 = .ok (.ireturn, 1) := dk_172 (dk_at dksX0_chancery_5 12 rfl rfl)
abbrev cX0_hands : ByteArray := prog_1_method_7_code
def yX0_hands : MethodName := ⟨RX0, "hands", "()I"⟩
def dkwX0_hands_0 : List UInt8 := [42, 180, 0, 20, 180, 0, 142, 182, 0, 144, 172]
abbrev dktX0_hands_0 : List UInt8 := dkwX0_hands_0 ++ []
theorem dksX0_hands_0 : cX0_hands.data.toList.drop 0 = dktX0_hands_0 := by decide +kernel
theorem dX0_hands_0 : decode cX0_hands 0 = .ok (.aload_n 0, 1) := dk_42 (dk_at dksX0_hands_0 0 rfl rfl)
theorem dX0_hands_1 : decode cX0_hands 1 = .ok (.getfield 20, 3) := dk_180 0 20 (dk_at dksX0_hands_0 1 rfl rfl)
theorem dX0_hands_4 : decode cX0_hands 4 = .ok (.getfield 142, 3) := dk_180 0 142 (dk_at dksX0_hands_0 4 rfl rfl)
theorem dX0_hands_7 : decode cX0_hands 7 = .ok (.invokevirtual 144, 3) := dk_182 0 144 (dk_at dksX0_hands_0 7 rfl rfl)
theorem dX0_hands_10 : decode cX0_hands 10 = .ok (.ireturn, 1) := dk_172 (dk_at dksX0_hands_0 10 rfl rfl)
abbrev cX0_fault : ByteArray := prog_1_method_6_code
def yX0_fault : MethodName := ⟨RX0, "fault", "(I)I"⟩
def dkwX0_fault_1 : List UInt8 := [172]
abbrev dktX0_fault_1 : List UInt8 := dkwX0_fault_1 ++ []
def dkwX0_fault_0 : List UInt8 := [27, 154, 0, 10, 42, 180, 0, 132, 167, 0, 16, 27, 4, 160, 0, 10, 42, 180, 0, 13, 167, 0, 4, 2]
abbrev dktX0_fault_0 : List UInt8 := dkwX0_fault_0 ++ dktX0_fault_1
theorem dksX0_fault_0 : cX0_fault.data.toList.drop 0 = dktX0_fault_0 := by decide +kernel
theorem dksX0_fault_1 : cX0_fault.data.toList.drop 24 = dktX0_fault_1 := dk_seg dksX0_fault_0 24 rfl rfl
theorem dX0_fault_0 : decode cX0_fault 0 = .ok (.iload_n 1, 1) := dk_27 (dk_at dksX0_fault_0 0 rfl rfl)
theorem dX0_fault_1 : decode cX0_fault 1 = .ok (.ifCond .ne 10, 3) := dk_154 0 10 (dk_at dksX0_fault_0 1 rfl rfl)
theorem dX0_fault_4 : decode cX0_fault 4 = .ok (.aload_n 0, 1) := dk_42 (dk_at dksX0_fault_0 4 rfl rfl)
theorem dX0_fault_5 : decode cX0_fault 5 = .ok (.getfield 132, 3) := dk_180 0 132 (dk_at dksX0_fault_0 5 rfl rfl)
theorem dX0_fault_8 : decode cX0_fault 8 = .ok (.goto 16, 3) := dk_167 0 16 (dk_at dksX0_fault_0 8 rfl rfl)
theorem dX0_fault_11 : decode cX0_fault 11 = .ok (.iload_n 1, 1) := dk_27 (dk_at dksX0_fault_0 11 rfl rfl)
theorem dX0_fault_12 : decode cX0_fault 12 = .ok (.iconst 1, 1) := dk_4 (dk_at dksX0_fault_0 12 rfl rfl)
theorem dX0_fault_13 : decode cX0_fault 13 = .ok (.if_icmp .ne 10, 3) := dk_160 0 10 (dk_at dksX0_fault_0 13 rfl rfl)
theorem dX0_fault_16 : decode cX0_fault 16 = .ok (.aload_n 0, 1) := dk_42 (dk_at dksX0_fault_0 16 rfl rfl)
theorem dX0_fault_17 : decode cX0_fault 17 = .ok (.getfield 13, 3) := dk_180 0 13 (dk_at dksX0_fault_0 17 rfl rfl)
theorem dX0_fault_20 : decode cX0_fault 20 = .ok (.goto 4, 3) := dk_167 0 4 (dk_at dksX0_fault_0 20 rfl rfl)
theorem dX0_fault_23 : decode cX0_fault 23 = .ok (.iconst (-1), 1) := dk_2 (dk_at dksX0_fault_0 23 rfl rfl)
theorem dX0_fault_24 : decode cX0_fault 24 = .ok (.ireturn, 1) := dk_172 (dk_at dksX0_fault_1 0 rfl rfl)
abbrev cX0_seal : ByteArray := prog_1_method_14_code
def yX0_seal : MethodName := ⟨RX0, "seal", "(II)I"⟩
def dkwX0_seal_4 : List UInt8 := [172, 2, 172]
abbrev dktX0_seal_4 : List UInt8 := dkwX0_seal_4 ++ []
def dkwX0_seal_3 : List UInt8 := [180, 0, 170, 27, 46, 172, 42, 180, 0, 31, 180, 0, 173, 27, 46, 172, 42, 180, 0, 31, 27, 182, 0, 176]
abbrev dktX0_seal_3 : List UInt8 := dkwX0_seal_3 ++ dktX0_seal_4
def dkwX0_seal_2 : List UInt8 := [42, 180, 0, 31, 180, 0, 164, 27, 46, 172, 42, 180, 0, 31, 180, 0, 167, 27, 46, 172, 42, 180, 0, 31]
abbrev dktX0_seal_2 : List UInt8 := dkwX0_seal_2 ++ dktX0_seal_3
def dkwX0_seal_1 : List UInt8 := [170, 0, 0, 0, 82, 0, 0, 0, 0, 0, 0, 0, 4, 0, 0, 0, 33, 0, 0, 0, 43, 0, 0, 0, 53, 0, 0, 0, 63, 0, 0, 0, 73]
abbrev dktX0_seal_1 : List UInt8 := dkwX0_seal_1 ++ dktX0_seal_2
def dkwX0_seal_0 : List UInt8 := [42, 27, 182, 0, 160, 154, 0, 5, 2, 172, 28]
abbrev dktX0_seal_0 : List UInt8 := dkwX0_seal_0 ++ dktX0_seal_1
theorem dksX0_seal_0 : cX0_seal.data.toList.drop 0 = dktX0_seal_0 := by decide +kernel
theorem dksX0_seal_1 : cX0_seal.data.toList.drop 11 = dktX0_seal_1 := dk_seg dksX0_seal_0 11 rfl rfl
theorem dksX0_seal_2 : cX0_seal.data.toList.drop 44 = dktX0_seal_2 := dk_seg dksX0_seal_1 33 rfl rfl
theorem dksX0_seal_3 : cX0_seal.data.toList.drop 68 = dktX0_seal_3 := dk_seg dksX0_seal_2 24 rfl rfl
theorem dksX0_seal_4 : cX0_seal.data.toList.drop 92 = dktX0_seal_4 := dk_seg dksX0_seal_3 24 rfl rfl
theorem dX0_seal_0 : decode cX0_seal 0 = .ok (.aload_n 0, 1) := dk_42 (dk_at dksX0_seal_0 0 rfl rfl)
theorem dX0_seal_1 : decode cX0_seal 1 = .ok (.iload_n 1, 1) := dk_27 (dk_at dksX0_seal_0 1 rfl rfl)
theorem dX0_seal_2 : decode cX0_seal 2 = .ok (.invokevirtual 160, 3) := dk_182 0 160 (dk_at dksX0_seal_0 2 rfl rfl)
theorem dX0_seal_5 : decode cX0_seal 5 = .ok (.ifCond .ne 5, 3) := dk_154 0 5 (dk_at dksX0_seal_0 5 rfl rfl)
theorem dX0_seal_8 : decode cX0_seal 8 = .ok (.iconst (-1), 1) := dk_2 (dk_at dksX0_seal_0 8 rfl rfl)
theorem dX0_seal_9 : decode cX0_seal 9 = .ok (.ireturn, 1) := dk_172 (dk_at dksX0_seal_0 9 rfl rfl)
theorem dX0_seal_10 : decode cX0_seal 10 = .ok (.iload_n 2, 1) := dk_28 (dk_at dksX0_seal_0 10 rfl rfl)
theorem dX0_seal_11 : decode cX0_seal 11 = .ok (.tableswitch 82 0 4 #[33, 43, 53, 63, 73], 33) := by decide +kernel
theorem dX0_seal_44 : decode cX0_seal 44 = .ok (.aload_n 0, 1) := dk_42 (dk_at dksX0_seal_2 0 rfl rfl)
theorem dX0_seal_45 : decode cX0_seal 45 = .ok (.getfield 31, 3) := dk_180 0 31 (dk_at dksX0_seal_2 1 rfl rfl)
theorem dX0_seal_48 : decode cX0_seal 48 = .ok (.getfield 164, 3) := dk_180 0 164 (dk_at dksX0_seal_2 4 rfl rfl)
theorem dX0_seal_51 : decode cX0_seal 51 = .ok (.iload_n 1, 1) := dk_27 (dk_at dksX0_seal_2 7 rfl rfl)
theorem dX0_seal_52 : decode cX0_seal 52 = .ok (.iaload, 1) := dk_46 (dk_at dksX0_seal_2 8 rfl rfl)
theorem dX0_seal_53 : decode cX0_seal 53 = .ok (.ireturn, 1) := dk_172 (dk_at dksX0_seal_2 9 rfl rfl)
theorem dX0_seal_54 : decode cX0_seal 54 = .ok (.aload_n 0, 1) := dk_42 (dk_at dksX0_seal_2 10 rfl rfl)
theorem dX0_seal_55 : decode cX0_seal 55 = .ok (.getfield 31, 3) := dk_180 0 31 (dk_at dksX0_seal_2 11 rfl rfl)
theorem dX0_seal_58 : decode cX0_seal 58 = .ok (.getfield 167, 3) := dk_180 0 167 (dk_at dksX0_seal_2 14 rfl rfl)
theorem dX0_seal_61 : decode cX0_seal 61 = .ok (.iload_n 1, 1) := dk_27 (dk_at dksX0_seal_2 17 rfl rfl)
theorem dX0_seal_62 : decode cX0_seal 62 = .ok (.iaload, 1) := dk_46 (dk_at dksX0_seal_2 18 rfl rfl)
theorem dX0_seal_63 : decode cX0_seal 63 = .ok (.ireturn, 1) := dk_172 (dk_at dksX0_seal_2 19 rfl rfl)
theorem dX0_seal_64 : decode cX0_seal 64 = .ok (.aload_n 0, 1) := dk_42 (dk_at dksX0_seal_2 20 rfl rfl)
theorem dX0_seal_65 : decode cX0_seal 65 = .ok (.getfield 31, 3) := dk_180 0 31 (dk_at dksX0_seal_2 21 rfl rfl)
theorem dX0_seal_68 : decode cX0_seal 68 = .ok (.getfield 170, 3) := dk_180 0 170 (dk_at dksX0_seal_3 0 rfl rfl)
theorem dX0_seal_71 : decode cX0_seal 71 = .ok (.iload_n 1, 1) := dk_27 (dk_at dksX0_seal_3 3 rfl rfl)
theorem dX0_seal_72 : decode cX0_seal 72 = .ok (.iaload, 1) := dk_46 (dk_at dksX0_seal_3 4 rfl rfl)
theorem dX0_seal_73 : decode cX0_seal 73 = .ok (.ireturn, 1) := dk_172 (dk_at dksX0_seal_3 5 rfl rfl)
theorem dX0_seal_74 : decode cX0_seal 74 = .ok (.aload_n 0, 1) := dk_42 (dk_at dksX0_seal_3 6 rfl rfl)
theorem dX0_seal_75 : decode cX0_seal 75 = .ok (.getfield 31, 3) := dk_180 0 31 (dk_at dksX0_seal_3 7 rfl rfl)
theorem dX0_seal_78 : decode cX0_seal 78 = .ok (.getfield 173, 3) := dk_180 0 173 (dk_at dksX0_seal_3 10 rfl rfl)
theorem dX0_seal_81 : decode cX0_seal 81 = .ok (.iload_n 1, 1) := dk_27 (dk_at dksX0_seal_3 13 rfl rfl)
theorem dX0_seal_82 : decode cX0_seal 82 = .ok (.iaload, 1) := dk_46 (dk_at dksX0_seal_3 14 rfl rfl)
theorem dX0_seal_83 : decode cX0_seal 83 = .ok (.ireturn, 1) := dk_172 (dk_at dksX0_seal_3 15 rfl rfl)
theorem dX0_seal_84 : decode cX0_seal 84 = .ok (.aload_n 0, 1) := dk_42 (dk_at dksX0_seal_3 16 rfl rfl)
theorem dX0_seal_85 : decode cX0_seal 85 = .ok (.getfield 31, 3) := dk_180 0 31 (dk_at dksX0_seal_3 17 rfl rfl)
theorem dX0_seal_88 : decode cX0_seal 88 = .ok (.iload_n 1, 1) := dk_27 (dk_at dksX0_seal_3 20 rfl rfl)
theorem dX0_seal_89 : decode cX0_seal 89 = .ok (.invokevirtual 176, 3) := dk_182 0 176 (dk_at dksX0_seal_3 21 rfl rfl)
theorem dX0_seal_92 : decode cX0_seal 92 = .ok (.ireturn, 1) := dk_172 (dk_at dksX0_seal_4 0 rfl rfl)
theorem dX0_seal_93 : decode cX0_seal 93 = .ok (.iconst (-1), 1) := dk_2 (dk_at dksX0_seal_4 1 rfl rfl)
theorem dX0_seal_94 : decode cX0_seal 94 = .ok (.ireturn, 1) := dk_172 (dk_at dksX0_seal_4 2 rfl rfl)
abbrev cX0_isSeal : ByteArray := prog_1_method_10_code
def yX0_isSeal : MethodName := ⟨RX0, "isSeal", "(I)Z"⟩
def dkwX0_isSeal_0 : List UInt8 := [27, 3, 42, 180, 0, 31, 180, 0, 154, 4, 100, 184, 0, 150, 172]
abbrev dktX0_isSeal_0 : List UInt8 := dkwX0_isSeal_0 ++ []
theorem dksX0_isSeal_0 : cX0_isSeal.data.toList.drop 0 = dktX0_isSeal_0 := by decide +kernel
theorem dX0_isSeal_0 : decode cX0_isSeal 0 = .ok (.iload_n 1, 1) := dk_27 (dk_at dksX0_isSeal_0 0 rfl rfl)
theorem dX0_isSeal_1 : decode cX0_isSeal 1 = .ok (.iconst 0, 1) := dk_3 (dk_at dksX0_isSeal_0 1 rfl rfl)
theorem dX0_isSeal_2 : decode cX0_isSeal 2 = .ok (.aload_n 0, 1) := dk_42 (dk_at dksX0_isSeal_0 2 rfl rfl)
theorem dX0_isSeal_3 : decode cX0_isSeal 3 = .ok (.getfield 31, 3) := dk_180 0 31 (dk_at dksX0_isSeal_0 3 rfl rfl)
theorem dX0_isSeal_6 : decode cX0_isSeal 6 = .ok (.getfield 154, 3) := dk_180 0 154 (dk_at dksX0_isSeal_0 6 rfl rfl)
theorem dX0_isSeal_9 : decode cX0_isSeal 9 = .ok (.iconst 1, 1) := dk_4 (dk_at dksX0_isSeal_0 9 rfl rfl)
theorem dX0_isSeal_10 : decode cX0_isSeal 10 = .ok (.isub, 1) := dk_100 (dk_at dksX0_isSeal_0 10 rfl rfl)
theorem dX0_isSeal_11 : decode cX0_isSeal 11 = .ok (.invokestatic 150, 3) := dk_184 0 150 (dk_at dksX0_isSeal_0 11 rfl rfl)
theorem dX0_isSeal_14 : decode cX0_isSeal 14 = .ok (.ireturn, 1) := dk_172 (dk_at dksX0_isSeal_0 14 rfl rfl)
abbrev cX0_isIn : ByteArray := prog_1_method_1_code
def yX0_isIn : MethodName := ⟨RX0, "isIn", "(III)Z"⟩
def dkwX0_isIn_0 : List UInt8 := [26, 27, 161, 0, 12, 26, 28, 163, 0, 7, 4, 167, 0, 4, 3, 172]
abbrev dktX0_isIn_0 : List UInt8 := dkwX0_isIn_0 ++ []
theorem dksX0_isIn_0 : cX0_isIn.data.toList.drop 0 = dktX0_isIn_0 := by decide +kernel
theorem dX0_isIn_0 : decode cX0_isIn 0 = .ok (.iload_n 0, 1) := dk_26 (dk_at dksX0_isIn_0 0 rfl rfl)
theorem dX0_isIn_1 : decode cX0_isIn 1 = .ok (.iload_n 1, 1) := dk_27 (dk_at dksX0_isIn_0 1 rfl rfl)
theorem dX0_isIn_2 : decode cX0_isIn 2 = .ok (.if_icmp .lt 12, 3) := dk_161 0 12 (dk_at dksX0_isIn_0 2 rfl rfl)
theorem dX0_isIn_5 : decode cX0_isIn 5 = .ok (.iload_n 0, 1) := dk_26 (dk_at dksX0_isIn_0 5 rfl rfl)
theorem dX0_isIn_6 : decode cX0_isIn 6 = .ok (.iload_n 2, 1) := dk_28 (dk_at dksX0_isIn_0 6 rfl rfl)
theorem dX0_isIn_7 : decode cX0_isIn 7 = .ok (.if_icmp .gt 7, 3) := dk_163 0 7 (dk_at dksX0_isIn_0 7 rfl rfl)
theorem dX0_isIn_10 : decode cX0_isIn 10 = .ok (.iconst 1, 1) := dk_4 (dk_at dksX0_isIn_0 10 rfl rfl)
theorem dX0_isIn_11 : decode cX0_isIn 11 = .ok (.goto 4, 3) := dk_167 0 4 (dk_at dksX0_isIn_0 11 rfl rfl)
theorem dX0_isIn_14 : decode cX0_isIn 14 = .ok (.iconst 0, 1) := dk_3 (dk_at dksX0_isIn_0 14 rfl rfl)
theorem dX0_isIn_15 : decode cX0_isIn 15 = .ok (.ireturn, 1) := dk_172 (dk_at dksX0_isIn_0 15 rfl rfl)
abbrev cX0_shown : ByteArray := prog_1_method_15_code
def yX0_shown : MethodName := ⟨RX0, "shown", "(II)I"⟩
def dkwX0_shown_3 : List UInt8 := [167, 0, 4, 2, 172]
abbrev dktX0_shown_3 : List UInt8 := dkwX0_shown_3 ++ []
def dkwX0_shown_2 : List UInt8 := [180, 0, 186, 27, 46, 167, 0, 21, 28, 5, 160, 0, 15, 42, 180, 0, 31, 180, 0, 189, 27, 46]
abbrev dktX0_shown_2 : List UInt8 := dkwX0_shown_2 ++ dktX0_shown_3
def dkwX0_shown_1 : List UInt8 := [154, 0, 15, 42, 180, 0, 31, 180, 0, 183, 27, 46, 167, 0, 38, 28, 4, 160, 0, 15, 42, 180, 0, 31]
abbrev dktX0_shown_1 : List UInt8 := dkwX0_shown_1 ++ dktX0_shown_2
def dkwX0_shown_0 : List UInt8 := [27, 3, 42, 180, 0, 31, 180, 0, 180, 4, 100, 184, 0, 150, 154, 0, 7, 2, 167, 0, 54, 28]
abbrev dktX0_shown_0 : List UInt8 := dkwX0_shown_0 ++ dktX0_shown_1
theorem dksX0_shown_0 : cX0_shown.data.toList.drop 0 = dktX0_shown_0 := by decide +kernel
theorem dksX0_shown_1 : cX0_shown.data.toList.drop 22 = dktX0_shown_1 := dk_seg dksX0_shown_0 22 rfl rfl
theorem dksX0_shown_2 : cX0_shown.data.toList.drop 46 = dktX0_shown_2 := dk_seg dksX0_shown_1 24 rfl rfl
theorem dksX0_shown_3 : cX0_shown.data.toList.drop 68 = dktX0_shown_3 := dk_seg dksX0_shown_2 22 rfl rfl
theorem dX0_shown_0 : decode cX0_shown 0 = .ok (.iload_n 1, 1) := dk_27 (dk_at dksX0_shown_0 0 rfl rfl)
theorem dX0_shown_1 : decode cX0_shown 1 = .ok (.iconst 0, 1) := dk_3 (dk_at dksX0_shown_0 1 rfl rfl)
theorem dX0_shown_2 : decode cX0_shown 2 = .ok (.aload_n 0, 1) := dk_42 (dk_at dksX0_shown_0 2 rfl rfl)
theorem dX0_shown_3 : decode cX0_shown 3 = .ok (.getfield 31, 3) := dk_180 0 31 (dk_at dksX0_shown_0 3 rfl rfl)
theorem dX0_shown_6 : decode cX0_shown 6 = .ok (.getfield 180, 3) := dk_180 0 180 (dk_at dksX0_shown_0 6 rfl rfl)
theorem dX0_shown_9 : decode cX0_shown 9 = .ok (.iconst 1, 1) := dk_4 (dk_at dksX0_shown_0 9 rfl rfl)
theorem dX0_shown_10 : decode cX0_shown 10 = .ok (.isub, 1) := dk_100 (dk_at dksX0_shown_0 10 rfl rfl)
theorem dX0_shown_11 : decode cX0_shown 11 = .ok (.invokestatic 150, 3) := dk_184 0 150 (dk_at dksX0_shown_0 11 rfl rfl)
theorem dX0_shown_14 : decode cX0_shown 14 = .ok (.ifCond .ne 7, 3) := dk_154 0 7 (dk_at dksX0_shown_0 14 rfl rfl)
theorem dX0_shown_17 : decode cX0_shown 17 = .ok (.iconst (-1), 1) := dk_2 (dk_at dksX0_shown_0 17 rfl rfl)
theorem dX0_shown_18 : decode cX0_shown 18 = .ok (.goto 54, 3) := dk_167 0 54 (dk_at dksX0_shown_0 18 rfl rfl)
theorem dX0_shown_21 : decode cX0_shown 21 = .ok (.iload_n 2, 1) := dk_28 (dk_at dksX0_shown_0 21 rfl rfl)
theorem dX0_shown_22 : decode cX0_shown 22 = .ok (.ifCond .ne 15, 3) := dk_154 0 15 (dk_at dksX0_shown_1 0 rfl rfl)
theorem dX0_shown_25 : decode cX0_shown 25 = .ok (.aload_n 0, 1) := dk_42 (dk_at dksX0_shown_1 3 rfl rfl)
theorem dX0_shown_26 : decode cX0_shown 26 = .ok (.getfield 31, 3) := dk_180 0 31 (dk_at dksX0_shown_1 4 rfl rfl)
theorem dX0_shown_29 : decode cX0_shown 29 = .ok (.getfield 183, 3) := dk_180 0 183 (dk_at dksX0_shown_1 7 rfl rfl)
theorem dX0_shown_32 : decode cX0_shown 32 = .ok (.iload_n 1, 1) := dk_27 (dk_at dksX0_shown_1 10 rfl rfl)
theorem dX0_shown_33 : decode cX0_shown 33 = .ok (.iaload, 1) := dk_46 (dk_at dksX0_shown_1 11 rfl rfl)
theorem dX0_shown_34 : decode cX0_shown 34 = .ok (.goto 38, 3) := dk_167 0 38 (dk_at dksX0_shown_1 12 rfl rfl)
theorem dX0_shown_37 : decode cX0_shown 37 = .ok (.iload_n 2, 1) := dk_28 (dk_at dksX0_shown_1 15 rfl rfl)
theorem dX0_shown_38 : decode cX0_shown 38 = .ok (.iconst 1, 1) := dk_4 (dk_at dksX0_shown_1 16 rfl rfl)
theorem dX0_shown_39 : decode cX0_shown 39 = .ok (.if_icmp .ne 15, 3) := dk_160 0 15 (dk_at dksX0_shown_1 17 rfl rfl)
theorem dX0_shown_42 : decode cX0_shown 42 = .ok (.aload_n 0, 1) := dk_42 (dk_at dksX0_shown_1 20 rfl rfl)
theorem dX0_shown_43 : decode cX0_shown 43 = .ok (.getfield 31, 3) := dk_180 0 31 (dk_at dksX0_shown_1 21 rfl rfl)
theorem dX0_shown_46 : decode cX0_shown 46 = .ok (.getfield 186, 3) := dk_180 0 186 (dk_at dksX0_shown_2 0 rfl rfl)
theorem dX0_shown_49 : decode cX0_shown 49 = .ok (.iload_n 1, 1) := dk_27 (dk_at dksX0_shown_2 3 rfl rfl)
theorem dX0_shown_50 : decode cX0_shown 50 = .ok (.iaload, 1) := dk_46 (dk_at dksX0_shown_2 4 rfl rfl)
theorem dX0_shown_51 : decode cX0_shown 51 = .ok (.goto 21, 3) := dk_167 0 21 (dk_at dksX0_shown_2 5 rfl rfl)
theorem dX0_shown_54 : decode cX0_shown 54 = .ok (.iload_n 2, 1) := dk_28 (dk_at dksX0_shown_2 8 rfl rfl)
theorem dX0_shown_55 : decode cX0_shown 55 = .ok (.iconst 2, 1) := dk_5 (dk_at dksX0_shown_2 9 rfl rfl)
theorem dX0_shown_56 : decode cX0_shown 56 = .ok (.if_icmp .ne 15, 3) := dk_160 0 15 (dk_at dksX0_shown_2 10 rfl rfl)
theorem dX0_shown_59 : decode cX0_shown 59 = .ok (.aload_n 0, 1) := dk_42 (dk_at dksX0_shown_2 13 rfl rfl)
theorem dX0_shown_60 : decode cX0_shown 60 = .ok (.getfield 31, 3) := dk_180 0 31 (dk_at dksX0_shown_2 14 rfl rfl)
theorem dX0_shown_63 : decode cX0_shown 63 = .ok (.getfield 189, 3) := dk_180 0 189 (dk_at dksX0_shown_2 17 rfl rfl)
theorem dX0_shown_66 : decode cX0_shown 66 = .ok (.iload_n 1, 1) := dk_27 (dk_at dksX0_shown_2 20 rfl rfl)
theorem dX0_shown_67 : decode cX0_shown 67 = .ok (.iaload, 1) := dk_46 (dk_at dksX0_shown_2 21 rfl rfl)
theorem dX0_shown_68 : decode cX0_shown 68 = .ok (.goto 4, 3) := dk_167 0 4 (dk_at dksX0_shown_3 0 rfl rfl)
theorem dX0_shown_71 : decode cX0_shown 71 = .ok (.iconst (-1), 1) := dk_2 (dk_at dksX0_shown_3 3 rfl rfl)
theorem dX0_shown_72 : decode cX0_shown 72 = .ok (.ireturn, 1) := dk_172 (dk_at dksX0_shown_3 4 rfl rfl)
abbrev cX0_prints : ByteArray := prog_1_method_16_code
def yX0_prints : MethodName := ⟨RX0, "prints", "(II)I"⟩
def dkwX0_prints_4 : List UInt8 := [167, 255, 195, 28, 154, 0, 7, 29, 167, 0, 15, 28, 4, 160, 0, 8, 21, 4, 167, 0, 5, 21, 5, 172]
abbrev dktX0_prints_4 : List UInt8 := dkwX0_prints_4 ++ []
def dkwX0_prints_3 : List UInt8 := [21, 6, 46, 54, 5, 21, 4, 156, 0, 8, 21, 5, 167, 0, 5, 21, 4, 54, 4, 132, 6, 1]
abbrev dktX0_prints_3 : List UInt8 := dkwX0_prints_3 ++ dktX0_prints_4
def dkwX0_prints_2 : List UInt8 := [180, 0, 183, 21, 6, 46, 27, 159, 0, 6, 167, 0, 32, 132, 3, 1, 42, 180, 0, 31, 180, 0, 189]
abbrev dktX0_prints_2 : List UInt8 := dkwX0_prints_2 ++ dktX0_prints_3
def dkwX0_prints_1 : List UInt8 := [2, 54, 5, 3, 54, 6, 21, 6, 42, 180, 0, 31, 180, 0, 180, 162, 0, 55, 42, 180, 0, 31]
abbrev dktX0_prints_1 : List UInt8 := dkwX0_prints_1 ++ dktX0_prints_2
def dkwX0_prints_0 : List UInt8 := [42, 27, 182, 0, 192, 153, 0, 12, 28, 3, 5, 184, 0, 150, 154, 0, 5, 2, 172, 3, 62, 2, 54, 4]
abbrev dktX0_prints_0 : List UInt8 := dkwX0_prints_0 ++ dktX0_prints_1
theorem dksX0_prints_0 : cX0_prints.data.toList.drop 0 = dktX0_prints_0 := by decide +kernel
theorem dksX0_prints_1 : cX0_prints.data.toList.drop 24 = dktX0_prints_1 := dk_seg dksX0_prints_0 24 rfl rfl
theorem dksX0_prints_2 : cX0_prints.data.toList.drop 46 = dktX0_prints_2 := dk_seg dksX0_prints_1 22 rfl rfl
theorem dksX0_prints_3 : cX0_prints.data.toList.drop 69 = dktX0_prints_3 := dk_seg dksX0_prints_2 23 rfl rfl
theorem dksX0_prints_4 : cX0_prints.data.toList.drop 91 = dktX0_prints_4 := dk_seg dksX0_prints_3 22 rfl rfl
theorem dX0_prints_0 : decode cX0_prints 0 = .ok (.aload_n 0, 1) := dk_42 (dk_at dksX0_prints_0 0 rfl rfl)
theorem dX0_prints_1 : decode cX0_prints 1 = .ok (.iload_n 1, 1) := dk_27 (dk_at dksX0_prints_0 1 rfl rfl)
theorem dX0_prints_2 : decode cX0_prints 2 = .ok (.invokevirtual 192, 3) := dk_182 0 192 (dk_at dksX0_prints_0 2 rfl rfl)
theorem dX0_prints_5 : decode cX0_prints 5 = .ok (.ifCond .eq 12, 3) := dk_153 0 12 (dk_at dksX0_prints_0 5 rfl rfl)
theorem dX0_prints_8 : decode cX0_prints 8 = .ok (.iload_n 2, 1) := dk_28 (dk_at dksX0_prints_0 8 rfl rfl)
theorem dX0_prints_9 : decode cX0_prints 9 = .ok (.iconst 0, 1) := dk_3 (dk_at dksX0_prints_0 9 rfl rfl)
theorem dX0_prints_10 : decode cX0_prints 10 = .ok (.iconst 2, 1) := dk_5 (dk_at dksX0_prints_0 10 rfl rfl)
theorem dX0_prints_11 : decode cX0_prints 11 = .ok (.invokestatic 150, 3) := dk_184 0 150 (dk_at dksX0_prints_0 11 rfl rfl)
theorem dX0_prints_14 : decode cX0_prints 14 = .ok (.ifCond .ne 5, 3) := dk_154 0 5 (dk_at dksX0_prints_0 14 rfl rfl)
theorem dX0_prints_17 : decode cX0_prints 17 = .ok (.iconst (-1), 1) := dk_2 (dk_at dksX0_prints_0 17 rfl rfl)
theorem dX0_prints_18 : decode cX0_prints 18 = .ok (.ireturn, 1) := dk_172 (dk_at dksX0_prints_0 18 rfl rfl)
theorem dX0_prints_19 : decode cX0_prints 19 = .ok (.iconst 0, 1) := dk_3 (dk_at dksX0_prints_0 19 rfl rfl)
theorem dX0_prints_20 : decode cX0_prints 20 = .ok (.istore_n 3, 1) := dk_62 (dk_at dksX0_prints_0 20 rfl rfl)
theorem dX0_prints_21 : decode cX0_prints 21 = .ok (.iconst (-1), 1) := dk_2 (dk_at dksX0_prints_0 21 rfl rfl)
theorem dX0_prints_22 : decode cX0_prints 22 = .ok (.istore 4, 2) := dk_54 4 (dk_at dksX0_prints_0 22 rfl rfl)
theorem dX0_prints_24 : decode cX0_prints 24 = .ok (.iconst (-1), 1) := dk_2 (dk_at dksX0_prints_1 0 rfl rfl)
theorem dX0_prints_25 : decode cX0_prints 25 = .ok (.istore 5, 2) := dk_54 5 (dk_at dksX0_prints_1 1 rfl rfl)
theorem dX0_prints_27 : decode cX0_prints 27 = .ok (.iconst 0, 1) := dk_3 (dk_at dksX0_prints_1 3 rfl rfl)
theorem dX0_prints_28 : decode cX0_prints 28 = .ok (.istore 6, 2) := dk_54 6 (dk_at dksX0_prints_1 4 rfl rfl)
theorem dX0_prints_30 : decode cX0_prints 30 = .ok (.iload 6, 2) := dk_21 6 (dk_at dksX0_prints_1 6 rfl rfl)
theorem dX0_prints_32 : decode cX0_prints 32 = .ok (.aload_n 0, 1) := dk_42 (dk_at dksX0_prints_1 8 rfl rfl)
theorem dX0_prints_33 : decode cX0_prints 33 = .ok (.getfield 31, 3) := dk_180 0 31 (dk_at dksX0_prints_1 9 rfl rfl)
theorem dX0_prints_36 : decode cX0_prints 36 = .ok (.getfield 180, 3) := dk_180 0 180 (dk_at dksX0_prints_1 12 rfl rfl)
theorem dX0_prints_39 : decode cX0_prints 39 = .ok (.if_icmp .ge 55, 3) := dk_162 0 55 (dk_at dksX0_prints_1 15 rfl rfl)
theorem dX0_prints_42 : decode cX0_prints 42 = .ok (.aload_n 0, 1) := dk_42 (dk_at dksX0_prints_1 18 rfl rfl)
theorem dX0_prints_43 : decode cX0_prints 43 = .ok (.getfield 31, 3) := dk_180 0 31 (dk_at dksX0_prints_1 19 rfl rfl)
theorem dX0_prints_46 : decode cX0_prints 46 = .ok (.getfield 183, 3) := dk_180 0 183 (dk_at dksX0_prints_2 0 rfl rfl)
theorem dX0_prints_49 : decode cX0_prints 49 = .ok (.iload 6, 2) := dk_21 6 (dk_at dksX0_prints_2 3 rfl rfl)
theorem dX0_prints_51 : decode cX0_prints 51 = .ok (.iaload, 1) := dk_46 (dk_at dksX0_prints_2 5 rfl rfl)
theorem dX0_prints_52 : decode cX0_prints 52 = .ok (.iload_n 1, 1) := dk_27 (dk_at dksX0_prints_2 6 rfl rfl)
theorem dX0_prints_53 : decode cX0_prints 53 = .ok (.if_icmp .eq 6, 3) := dk_159 0 6 (dk_at dksX0_prints_2 7 rfl rfl)
theorem dX0_prints_56 : decode cX0_prints 56 = .ok (.goto 32, 3) := dk_167 0 32 (dk_at dksX0_prints_2 10 rfl rfl)
theorem dX0_prints_59 : decode cX0_prints 59 = .ok (.iinc 3 1, 3) := dk_132 3 1 (dk_at dksX0_prints_2 13 rfl rfl)
theorem dX0_prints_62 : decode cX0_prints 62 = .ok (.aload_n 0, 1) := dk_42 (dk_at dksX0_prints_2 16 rfl rfl)
theorem dX0_prints_63 : decode cX0_prints 63 = .ok (.getfield 31, 3) := dk_180 0 31 (dk_at dksX0_prints_2 17 rfl rfl)
theorem dX0_prints_66 : decode cX0_prints 66 = .ok (.getfield 189, 3) := dk_180 0 189 (dk_at dksX0_prints_2 20 rfl rfl)
theorem dX0_prints_69 : decode cX0_prints 69 = .ok (.iload 6, 2) := dk_21 6 (dk_at dksX0_prints_3 0 rfl rfl)
theorem dX0_prints_71 : decode cX0_prints 71 = .ok (.iaload, 1) := dk_46 (dk_at dksX0_prints_3 2 rfl rfl)
theorem dX0_prints_72 : decode cX0_prints 72 = .ok (.istore 5, 2) := dk_54 5 (dk_at dksX0_prints_3 3 rfl rfl)
theorem dX0_prints_74 : decode cX0_prints 74 = .ok (.iload 4, 2) := dk_21 4 (dk_at dksX0_prints_3 5 rfl rfl)
theorem dX0_prints_76 : decode cX0_prints 76 = .ok (.ifCond .ge 8, 3) := dk_156 0 8 (dk_at dksX0_prints_3 7 rfl rfl)
theorem dX0_prints_79 : decode cX0_prints 79 = .ok (.iload 5, 2) := dk_21 5 (dk_at dksX0_prints_3 10 rfl rfl)
theorem dX0_prints_81 : decode cX0_prints 81 = .ok (.goto 5, 3) := dk_167 0 5 (dk_at dksX0_prints_3 12 rfl rfl)
theorem dX0_prints_84 : decode cX0_prints 84 = .ok (.iload 4, 2) := dk_21 4 (dk_at dksX0_prints_3 15 rfl rfl)
theorem dX0_prints_86 : decode cX0_prints 86 = .ok (.istore 4, 2) := dk_54 4 (dk_at dksX0_prints_3 17 rfl rfl)
theorem dX0_prints_88 : decode cX0_prints 88 = .ok (.iinc 6 1, 3) := dk_132 6 1 (dk_at dksX0_prints_3 19 rfl rfl)
theorem dX0_prints_91 : decode cX0_prints 91 = .ok (.goto (-61), 3) := dk_167 255 195 (dk_at dksX0_prints_4 0 rfl rfl)
theorem dX0_prints_94 : decode cX0_prints 94 = .ok (.iload_n 2, 1) := dk_28 (dk_at dksX0_prints_4 3 rfl rfl)
theorem dX0_prints_95 : decode cX0_prints 95 = .ok (.ifCond .ne 7, 3) := dk_154 0 7 (dk_at dksX0_prints_4 4 rfl rfl)
theorem dX0_prints_98 : decode cX0_prints 98 = .ok (.iload_n 3, 1) := dk_29 (dk_at dksX0_prints_4 7 rfl rfl)
theorem dX0_prints_99 : decode cX0_prints 99 = .ok (.goto 15, 3) := dk_167 0 15 (dk_at dksX0_prints_4 8 rfl rfl)
theorem dX0_prints_102 : decode cX0_prints 102 = .ok (.iload_n 2, 1) := dk_28 (dk_at dksX0_prints_4 11 rfl rfl)
theorem dX0_prints_103 : decode cX0_prints 103 = .ok (.iconst 1, 1) := dk_4 (dk_at dksX0_prints_4 12 rfl rfl)
theorem dX0_prints_104 : decode cX0_prints 104 = .ok (.if_icmp .ne 8, 3) := dk_160 0 8 (dk_at dksX0_prints_4 13 rfl rfl)
theorem dX0_prints_107 : decode cX0_prints 107 = .ok (.iload 4, 2) := dk_21 4 (dk_at dksX0_prints_4 16 rfl rfl)
theorem dX0_prints_109 : decode cX0_prints 109 = .ok (.goto 5, 3) := dk_167 0 5 (dk_at dksX0_prints_4 18 rfl rfl)
theorem dX0_prints_112 : decode cX0_prints 112 = .ok (.iload 5, 2) := dk_21 5 (dk_at dksX0_prints_4 21 rfl rfl)
theorem dX0_prints_114 : decode cX0_prints 114 = .ok (.ireturn, 1) := dk_172 (dk_at dksX0_prints_4 23 rfl rfl)
abbrev cX0_isRow : ByteArray := prog_1_method_11_code
def yX0_isRow : MethodName := ⟨RX0, "isRow", "(I)Z"⟩
def dkwX0_isRow_0 : List UInt8 := [27, 3, 42, 182, 0, 157, 4, 100, 184, 0, 150, 172]
abbrev dktX0_isRow_0 : List UInt8 := dkwX0_isRow_0 ++ []
theorem dksX0_isRow_0 : cX0_isRow.data.toList.drop 0 = dktX0_isRow_0 := by decide +kernel
theorem dX0_isRow_0 : decode cX0_isRow 0 = .ok (.iload_n 1, 1) := dk_27 (dk_at dksX0_isRow_0 0 rfl rfl)
theorem dX0_isRow_1 : decode cX0_isRow 1 = .ok (.iconst 0, 1) := dk_3 (dk_at dksX0_isRow_0 1 rfl rfl)
theorem dX0_isRow_2 : decode cX0_isRow 2 = .ok (.aload_n 0, 1) := dk_42 (dk_at dksX0_isRow_0 2 rfl rfl)
theorem dX0_isRow_3 : decode cX0_isRow 3 = .ok (.invokevirtual 157, 3) := dk_182 0 157 (dk_at dksX0_isRow_0 3 rfl rfl)
theorem dX0_isRow_6 : decode cX0_isRow 6 = .ok (.iconst 1, 1) := dk_4 (dk_at dksX0_isRow_0 6 rfl rfl)
theorem dX0_isRow_7 : decode cX0_isRow 7 = .ok (.isub, 1) := dk_100 (dk_at dksX0_isRow_0 7 rfl rfl)
theorem dX0_isRow_8 : decode cX0_isRow 8 = .ok (.invokestatic 150, 3) := dk_184 0 150 (dk_at dksX0_isRow_0 8 rfl rfl)
theorem dX0_isRow_11 : decode cX0_isRow 11 = .ok (.ireturn, 1) := dk_172 (dk_at dksX0_isRow_0 11 rfl rfl)
abbrev cX0_rows : ByteArray := prog_1_method_8_code
def yX0_rows : MethodName := ⟨RX0, "rows", "()I"⟩
def dkwX0_rows_0 : List UInt8 := [4, 42, 180, 0, 20, 180, 0, 147, 120, 172]
abbrev dktX0_rows_0 : List UInt8 := dkwX0_rows_0 ++ []
theorem dksX0_rows_0 : cX0_rows.data.toList.drop 0 = dktX0_rows_0 := by decide +kernel
theorem dX0_rows_0 : decode cX0_rows 0 = .ok (.iconst 1, 1) := dk_4 (dk_at dksX0_rows_0 0 rfl rfl)
theorem dX0_rows_1 : decode cX0_rows 1 = .ok (.aload_n 0, 1) := dk_42 (dk_at dksX0_rows_0 1 rfl rfl)
theorem dX0_rows_2 : decode cX0_rows 2 = .ok (.getfield 20, 3) := dk_180 0 20 (dk_at dksX0_rows_0 2 rfl rfl)
theorem dX0_rows_5 : decode cX0_rows 5 = .ok (.getfield 147, 3) := dk_180 0 147 (dk_at dksX0_rows_0 5 rfl rfl)
theorem dX0_rows_8 : decode cX0_rows 8 = .ok (.ishl, 1) := dk_120 (dk_at dksX0_rows_0 8 rfl rfl)
theorem dX0_rows_9 : decode cX0_rows 9 = .ok (.ireturn, 1) := dk_172 (dk_at dksX0_rows_0 9 rfl rfl)
abbrev cX0_turned : ByteArray := prog_1_method_17_code
def yX0_turned : MethodName := ⟨RX0, "turned", "(I)I"⟩
def dkwX0_turned_0 : List UInt8 := [42, 27, 182, 0, 192, 153, 0, 14, 42, 180, 0, 20, 27, 182, 0, 195, 167, 0, 4, 2, 172]
abbrev dktX0_turned_0 : List UInt8 := dkwX0_turned_0 ++ []
theorem dksX0_turned_0 : cX0_turned.data.toList.drop 0 = dktX0_turned_0 := by decide +kernel
theorem dX0_turned_0 : decode cX0_turned 0 = .ok (.aload_n 0, 1) := dk_42 (dk_at dksX0_turned_0 0 rfl rfl)
theorem dX0_turned_1 : decode cX0_turned 1 = .ok (.iload_n 1, 1) := dk_27 (dk_at dksX0_turned_0 1 rfl rfl)
theorem dX0_turned_2 : decode cX0_turned 2 = .ok (.invokevirtual 192, 3) := dk_182 0 192 (dk_at dksX0_turned_0 2 rfl rfl)
theorem dX0_turned_5 : decode cX0_turned 5 = .ok (.ifCond .eq 14, 3) := dk_153 0 14 (dk_at dksX0_turned_0 5 rfl rfl)
theorem dX0_turned_8 : decode cX0_turned 8 = .ok (.aload_n 0, 1) := dk_42 (dk_at dksX0_turned_0 8 rfl rfl)
theorem dX0_turned_9 : decode cX0_turned 9 = .ok (.getfield 20, 3) := dk_180 0 20 (dk_at dksX0_turned_0 9 rfl rfl)
theorem dX0_turned_12 : decode cX0_turned 12 = .ok (.iload_n 1, 1) := dk_27 (dk_at dksX0_turned_0 12 rfl rfl)
theorem dX0_turned_13 : decode cX0_turned 13 = .ok (.invokevirtual 195, 3) := dk_182 0 195 (dk_at dksX0_turned_0 13 rfl rfl)
theorem dX0_turned_16 : decode cX0_turned 16 = .ok (.goto 4, 3) := dk_167 0 4 (dk_at dksX0_turned_0 16 rfl rfl)
theorem dX0_turned_19 : decode cX0_turned 19 = .ok (.iconst (-1), 1) := dk_2 (dk_at dksX0_turned_0 19 rfl rfl)
theorem dX0_turned_20 : decode cX0_turned 20 = .ok (.ireturn, 1) := dk_172 (dk_at dksX0_turned_0 20 rfl rfl)
abbrev cX0_would : ByteArray := prog_1_method_19_code
def yX0_would : MethodName := ⟨RX0, "would", "(IIII)I"⟩
def dkwX0_would_2 : List UInt8 := [180, 0, 197, 21, 4, 182, 0, 200, 167, 0, 4, 2, 172]
abbrev dktX0_would_2 : List UInt8 := dkwX0_would_2 ++ []
def dkwX0_would_1 : List UInt8 := [21, 4, 3, 16, 99, 184, 0, 150, 153, 0, 25, 42, 180, 0, 20, 27, 28, 29, 42, 180, 0, 31]
abbrev dktX0_would_1 : List UInt8 := dkwX0_would_1 ++ dktX0_would_2
def dkwX0_would_0 : List UInt8 := [42, 27, 182, 0, 192, 153, 0, 51, 42, 28, 182, 0, 204, 153, 0, 43, 29, 184, 0, 207, 153, 0, 36]
abbrev dktX0_would_0 : List UInt8 := dkwX0_would_0 ++ dktX0_would_1
theorem dksX0_would_0 : cX0_would.data.toList.drop 0 = dktX0_would_0 := by decide +kernel
theorem dksX0_would_1 : cX0_would.data.toList.drop 23 = dktX0_would_1 := dk_seg dksX0_would_0 23 rfl rfl
theorem dksX0_would_2 : cX0_would.data.toList.drop 45 = dktX0_would_2 := dk_seg dksX0_would_1 22 rfl rfl
theorem dX0_would_0 : decode cX0_would 0 = .ok (.aload_n 0, 1) := dk_42 (dk_at dksX0_would_0 0 rfl rfl)
theorem dX0_would_1 : decode cX0_would 1 = .ok (.iload_n 1, 1) := dk_27 (dk_at dksX0_would_0 1 rfl rfl)
theorem dX0_would_2 : decode cX0_would 2 = .ok (.invokevirtual 192, 3) := dk_182 0 192 (dk_at dksX0_would_0 2 rfl rfl)
theorem dX0_would_5 : decode cX0_would 5 = .ok (.ifCond .eq 51, 3) := dk_153 0 51 (dk_at dksX0_would_0 5 rfl rfl)
theorem dX0_would_8 : decode cX0_would 8 = .ok (.aload_n 0, 1) := dk_42 (dk_at dksX0_would_0 8 rfl rfl)
theorem dX0_would_9 : decode cX0_would 9 = .ok (.iload_n 2, 1) := dk_28 (dk_at dksX0_would_0 9 rfl rfl)
theorem dX0_would_10 : decode cX0_would 10 = .ok (.invokevirtual 204, 3) := dk_182 0 204 (dk_at dksX0_would_0 10 rfl rfl)
theorem dX0_would_13 : decode cX0_would 13 = .ok (.ifCond .eq 43, 3) := dk_153 0 43 (dk_at dksX0_would_0 13 rfl rfl)
theorem dX0_would_16 : decode cX0_would 16 = .ok (.iload_n 3, 1) := dk_29 (dk_at dksX0_would_0 16 rfl rfl)
theorem dX0_would_17 : decode cX0_would 17 = .ok (.invokestatic 207, 3) := dk_184 0 207 (dk_at dksX0_would_0 17 rfl rfl)
theorem dX0_would_20 : decode cX0_would 20 = .ok (.ifCond .eq 36, 3) := dk_153 0 36 (dk_at dksX0_would_0 20 rfl rfl)
theorem dX0_would_23 : decode cX0_would 23 = .ok (.iload 4, 2) := dk_21 4 (dk_at dksX0_would_1 0 rfl rfl)
theorem dX0_would_25 : decode cX0_would 25 = .ok (.iconst 0, 1) := dk_3 (dk_at dksX0_would_1 2 rfl rfl)
theorem dX0_would_26 : decode cX0_would 26 = .ok (.bipush 99, 2) := dk_16 99 (dk_at dksX0_would_1 3 rfl rfl)
theorem dX0_would_28 : decode cX0_would 28 = .ok (.invokestatic 150, 3) := dk_184 0 150 (dk_at dksX0_would_1 5 rfl rfl)
theorem dX0_would_31 : decode cX0_would 31 = .ok (.ifCond .eq 25, 3) := dk_153 0 25 (dk_at dksX0_would_1 8 rfl rfl)
theorem dX0_would_34 : decode cX0_would 34 = .ok (.aload_n 0, 1) := dk_42 (dk_at dksX0_would_1 11 rfl rfl)
theorem dX0_would_35 : decode cX0_would 35 = .ok (.getfield 20, 3) := dk_180 0 20 (dk_at dksX0_would_1 12 rfl rfl)
theorem dX0_would_38 : decode cX0_would 38 = .ok (.iload_n 1, 1) := dk_27 (dk_at dksX0_would_1 15 rfl rfl)
theorem dX0_would_39 : decode cX0_would 39 = .ok (.iload_n 2, 1) := dk_28 (dk_at dksX0_would_1 16 rfl rfl)
theorem dX0_would_40 : decode cX0_would 40 = .ok (.iload_n 3, 1) := dk_29 (dk_at dksX0_would_1 17 rfl rfl)
theorem dX0_would_41 : decode cX0_would 41 = .ok (.aload_n 0, 1) := dk_42 (dk_at dksX0_would_1 18 rfl rfl)
theorem dX0_would_42 : decode cX0_would 42 = .ok (.getfield 31, 3) := dk_180 0 31 (dk_at dksX0_would_1 19 rfl rfl)
theorem dX0_would_45 : decode cX0_would 45 = .ok (.getfield 197, 3) := dk_180 0 197 (dk_at dksX0_would_2 0 rfl rfl)
theorem dX0_would_48 : decode cX0_would 48 = .ok (.iload 4, 2) := dk_21 4 (dk_at dksX0_would_2 3 rfl rfl)
theorem dX0_would_50 : decode cX0_would 50 = .ok (.invokevirtual 200, 3) := dk_182 0 200 (dk_at dksX0_would_2 5 rfl rfl)
theorem dX0_would_53 : decode cX0_would 53 = .ok (.goto 4, 3) := dk_167 0 4 (dk_at dksX0_would_2 8 rfl rfl)
theorem dX0_would_56 : decode cX0_would 56 = .ok (.iconst (-1), 1) := dk_2 (dk_at dksX0_would_2 11 rfl rfl)
theorem dX0_would_57 : decode cX0_would 57 = .ok (.ireturn, 1) := dk_172 (dk_at dksX0_would_2 12 rfl rfl)
abbrev cX0_isHand : ByteArray := prog_1_method_9_code
def yX0_isHand : MethodName := ⟨RX0, "isHand", "(I)Z"⟩
def dkwX0_isHand_0 : List UInt8 := [27, 3, 42, 182, 0, 138, 4, 100, 184, 0, 150, 172]
abbrev dktX0_isHand_0 : List UInt8 := dkwX0_isHand_0 ++ []
theorem dksX0_isHand_0 : cX0_isHand.data.toList.drop 0 = dktX0_isHand_0 := by decide +kernel
theorem dX0_isHand_0 : decode cX0_isHand 0 = .ok (.iload_n 1, 1) := dk_27 (dk_at dksX0_isHand_0 0 rfl rfl)
theorem dX0_isHand_1 : decode cX0_isHand 1 = .ok (.iconst 0, 1) := dk_3 (dk_at dksX0_isHand_0 1 rfl rfl)
theorem dX0_isHand_2 : decode cX0_isHand 2 = .ok (.aload_n 0, 1) := dk_42 (dk_at dksX0_isHand_0 2 rfl rfl)
theorem dX0_isHand_3 : decode cX0_isHand 3 = .ok (.invokevirtual 138, 3) := dk_182 0 138 (dk_at dksX0_isHand_0 3 rfl rfl)
theorem dX0_isHand_6 : decode cX0_isHand 6 = .ok (.iconst 1, 1) := dk_4 (dk_at dksX0_isHand_0 6 rfl rfl)
theorem dX0_isHand_7 : decode cX0_isHand 7 = .ok (.isub, 1) := dk_100 (dk_at dksX0_isHand_0 7 rfl rfl)
theorem dX0_isHand_8 : decode cX0_isHand 8 = .ok (.invokestatic 150, 3) := dk_184 0 150 (dk_at dksX0_isHand_0 8 rfl rfl)
theorem dX0_isHand_11 : decode cX0_isHand 11 = .ok (.ireturn, 1) := dk_172 (dk_at dksX0_isHand_0 11 rfl rfl)
abbrev cX0_isHeat : ByteArray := prog_1_method_13_code
def yX0_isHeat : MethodName := ⟨RX0, "isHeat", "(I)Z"⟩
def dkwX0_isHeat_0 : List UInt8 := [26, 3, 16, 9, 184, 0, 150, 172]
abbrev dktX0_isHeat_0 : List UInt8 := dkwX0_isHeat_0 ++ []
theorem dksX0_isHeat_0 : cX0_isHeat.data.toList.drop 0 = dktX0_isHeat_0 := by decide +kernel
theorem dX0_isHeat_0 : decode cX0_isHeat 0 = .ok (.iload_n 0, 1) := dk_26 (dk_at dksX0_isHeat_0 0 rfl rfl)
theorem dX0_isHeat_1 : decode cX0_isHeat 1 = .ok (.iconst 0, 1) := dk_3 (dk_at dksX0_isHeat_0 1 rfl rfl)
theorem dX0_isHeat_2 : decode cX0_isHeat 2 = .ok (.bipush 9, 2) := dk_16 9 (dk_at dksX0_isHeat_0 2 rfl rfl)
theorem dX0_isHeat_4 : decode cX0_isHeat 4 = .ok (.invokestatic 150, 3) := dk_184 0 150 (dk_at dksX0_isHeat_0 4 rfl rfl)
theorem dX0_isHeat_7 : decode cX0_isHeat 7 = .ok (.ireturn, 1) := dk_172 (dk_at dksX0_isHeat_0 7 rfl rfl)
abbrev cX0_cast : ByteArray := prog_1_method_22_code
def yX0_cast : MethodName := ⟨RX0, "cast", "(III)I"⟩
def dkwX0_cast_8 : List UInt8 := [180, 0, 31, 89, 180, 0, 154, 4, 96, 181, 0, 154, 21, 4, 172]
abbrev dktX0_cast_8 : List UInt8 := dkwX0_cast_8 ++ []
def dkwX0_cast_7 : List UInt8 := [180, 0, 31, 180, 0, 197, 79, 42, 180, 0, 31, 89, 180, 0, 220, 4, 29, 96, 100, 181, 0, 220, 42]
abbrev dktX0_cast_7 : List UInt8 := dkwX0_cast_7 ++ dktX0_cast_8
def dkwX0_cast_6 : List UInt8 := [79, 42, 180, 0, 31, 180, 0, 170, 21, 4, 28, 79, 42, 180, 0, 31, 180, 0, 173, 21, 4, 42]
abbrev dktX0_cast_6 : List UInt8 := dkwX0_cast_6 ++ dktX0_cast_7
def dkwX0_cast_5 : List UInt8 := [42, 180, 0, 31, 180, 0, 226, 16, 100, 112, 182, 0, 200, 79, 42, 180, 0, 31, 180, 0, 167, 21, 4, 27]
abbrev dktX0_cast_5 : List UInt8 := dkwX0_cast_5 ++ dktX0_cast_6
def dkwX0_cast_4 : List UInt8 := [21, 4, 42, 180, 0, 20, 42, 180, 0, 31, 180, 0, 164, 27, 46, 28, 29, 42, 180, 0, 31, 180, 0, 197]
abbrev dktX0_cast_4 : List UInt8 := dkwX0_cast_4 ++ dktX0_cast_5
def dkwX0_cast_3 : List UInt8 := [17, 3, 232, 112, 181, 0, 226, 42, 180, 0, 31, 180, 0, 154, 54, 4, 42, 180, 0, 31, 180, 0, 164]
abbrev dktX0_cast_3 : List UInt8 := dkwX0_cast_3 ++ dktX0_cast_4
def dkwX0_cast_2 : List UInt8 := [2, 172, 42, 182, 0, 223, 42, 180, 0, 31, 42, 180, 0, 31, 180, 0, 226, 17, 0, 137, 104, 16, 71, 96]
abbrev dktX0_cast_2 : List UInt8 := dkwX0_cast_2 ++ dktX0_cast_3
def dkwX0_cast_1 : List UInt8 := [180, 0, 31, 180, 0, 154, 16, 24, 159, 0, 16, 42, 180, 0, 31, 180, 0, 220, 4, 29, 96, 162, 0, 5]
abbrev dktX0_cast_1 : List UInt8 := dkwX0_cast_1 ++ dktX0_cast_2
def dkwX0_cast_0 : List UInt8 := [42, 27, 182, 0, 160, 153, 0, 43, 42, 28, 182, 0, 204, 153, 0, 35, 29, 184, 0, 207, 153, 0, 28, 42]
abbrev dktX0_cast_0 : List UInt8 := dkwX0_cast_0 ++ dktX0_cast_1
theorem dksX0_cast_0 : cX0_cast.data.toList.drop 0 = dktX0_cast_0 := by decide +kernel
theorem dksX0_cast_1 : cX0_cast.data.toList.drop 24 = dktX0_cast_1 := dk_seg dksX0_cast_0 24 rfl rfl
theorem dksX0_cast_2 : cX0_cast.data.toList.drop 48 = dktX0_cast_2 := dk_seg dksX0_cast_1 24 rfl rfl
theorem dksX0_cast_3 : cX0_cast.data.toList.drop 72 = dktX0_cast_3 := dk_seg dksX0_cast_2 24 rfl rfl
theorem dksX0_cast_4 : cX0_cast.data.toList.drop 95 = dktX0_cast_4 := dk_seg dksX0_cast_3 23 rfl rfl
theorem dksX0_cast_5 : cX0_cast.data.toList.drop 119 = dktX0_cast_5 := dk_seg dksX0_cast_4 24 rfl rfl
theorem dksX0_cast_6 : cX0_cast.data.toList.drop 143 = dktX0_cast_6 := dk_seg dksX0_cast_5 24 rfl rfl
theorem dksX0_cast_7 : cX0_cast.data.toList.drop 165 = dktX0_cast_7 := dk_seg dksX0_cast_6 22 rfl rfl
theorem dksX0_cast_8 : cX0_cast.data.toList.drop 188 = dktX0_cast_8 := dk_seg dksX0_cast_7 23 rfl rfl
theorem dX0_cast_0 : decode cX0_cast 0 = .ok (.aload_n 0, 1) := dk_42 (dk_at dksX0_cast_0 0 rfl rfl)
theorem dX0_cast_1 : decode cX0_cast 1 = .ok (.iload_n 1, 1) := dk_27 (dk_at dksX0_cast_0 1 rfl rfl)
theorem dX0_cast_2 : decode cX0_cast 2 = .ok (.invokevirtual 160, 3) := dk_182 0 160 (dk_at dksX0_cast_0 2 rfl rfl)
theorem dX0_cast_5 : decode cX0_cast 5 = .ok (.ifCond .eq 43, 3) := dk_153 0 43 (dk_at dksX0_cast_0 5 rfl rfl)
theorem dX0_cast_8 : decode cX0_cast 8 = .ok (.aload_n 0, 1) := dk_42 (dk_at dksX0_cast_0 8 rfl rfl)
theorem dX0_cast_9 : decode cX0_cast 9 = .ok (.iload_n 2, 1) := dk_28 (dk_at dksX0_cast_0 9 rfl rfl)
theorem dX0_cast_10 : decode cX0_cast 10 = .ok (.invokevirtual 204, 3) := dk_182 0 204 (dk_at dksX0_cast_0 10 rfl rfl)
theorem dX0_cast_13 : decode cX0_cast 13 = .ok (.ifCond .eq 35, 3) := dk_153 0 35 (dk_at dksX0_cast_0 13 rfl rfl)
theorem dX0_cast_16 : decode cX0_cast 16 = .ok (.iload_n 3, 1) := dk_29 (dk_at dksX0_cast_0 16 rfl rfl)
theorem dX0_cast_17 : decode cX0_cast 17 = .ok (.invokestatic 207, 3) := dk_184 0 207 (dk_at dksX0_cast_0 17 rfl rfl)
theorem dX0_cast_20 : decode cX0_cast 20 = .ok (.ifCond .eq 28, 3) := dk_153 0 28 (dk_at dksX0_cast_0 20 rfl rfl)
theorem dX0_cast_23 : decode cX0_cast 23 = .ok (.aload_n 0, 1) := dk_42 (dk_at dksX0_cast_0 23 rfl rfl)
theorem dX0_cast_24 : decode cX0_cast 24 = .ok (.getfield 31, 3) := dk_180 0 31 (dk_at dksX0_cast_1 0 rfl rfl)
theorem dX0_cast_27 : decode cX0_cast 27 = .ok (.getfield 154, 3) := dk_180 0 154 (dk_at dksX0_cast_1 3 rfl rfl)
theorem dX0_cast_30 : decode cX0_cast 30 = .ok (.bipush 24, 2) := dk_16 24 (dk_at dksX0_cast_1 6 rfl rfl)
theorem dX0_cast_32 : decode cX0_cast 32 = .ok (.if_icmp .eq 16, 3) := dk_159 0 16 (dk_at dksX0_cast_1 8 rfl rfl)
theorem dX0_cast_35 : decode cX0_cast 35 = .ok (.aload_n 0, 1) := dk_42 (dk_at dksX0_cast_1 11 rfl rfl)
theorem dX0_cast_36 : decode cX0_cast 36 = .ok (.getfield 31, 3) := dk_180 0 31 (dk_at dksX0_cast_1 12 rfl rfl)
theorem dX0_cast_39 : decode cX0_cast 39 = .ok (.getfield 220, 3) := dk_180 0 220 (dk_at dksX0_cast_1 15 rfl rfl)
theorem dX0_cast_42 : decode cX0_cast 42 = .ok (.iconst 1, 1) := dk_4 (dk_at dksX0_cast_1 18 rfl rfl)
theorem dX0_cast_43 : decode cX0_cast 43 = .ok (.iload_n 3, 1) := dk_29 (dk_at dksX0_cast_1 19 rfl rfl)
theorem dX0_cast_44 : decode cX0_cast 44 = .ok (.iadd, 1) := dk_96 (dk_at dksX0_cast_1 20 rfl rfl)
theorem dX0_cast_45 : decode cX0_cast 45 = .ok (.if_icmp .ge 5, 3) := dk_162 0 5 (dk_at dksX0_cast_1 21 rfl rfl)
theorem dX0_cast_48 : decode cX0_cast 48 = .ok (.iconst (-1), 1) := dk_2 (dk_at dksX0_cast_2 0 rfl rfl)
theorem dX0_cast_49 : decode cX0_cast 49 = .ok (.ireturn, 1) := dk_172 (dk_at dksX0_cast_2 1 rfl rfl)
theorem dX0_cast_50 : decode cX0_cast 50 = .ok (.aload_n 0, 1) := dk_42 (dk_at dksX0_cast_2 2 rfl rfl)
theorem dX0_cast_51 : decode cX0_cast 51 = .ok (.invokevirtual 223, 3) := dk_182 0 223 (dk_at dksX0_cast_2 3 rfl rfl)
theorem dX0_cast_54 : decode cX0_cast 54 = .ok (.aload_n 0, 1) := dk_42 (dk_at dksX0_cast_2 6 rfl rfl)
theorem dX0_cast_55 : decode cX0_cast 55 = .ok (.getfield 31, 3) := dk_180 0 31 (dk_at dksX0_cast_2 7 rfl rfl)
theorem dX0_cast_58 : decode cX0_cast 58 = .ok (.aload_n 0, 1) := dk_42 (dk_at dksX0_cast_2 10 rfl rfl)
theorem dX0_cast_59 : decode cX0_cast 59 = .ok (.getfield 31, 3) := dk_180 0 31 (dk_at dksX0_cast_2 11 rfl rfl)
theorem dX0_cast_62 : decode cX0_cast 62 = .ok (.getfield 226, 3) := dk_180 0 226 (dk_at dksX0_cast_2 14 rfl rfl)
theorem dX0_cast_65 : decode cX0_cast 65 = .ok (.sipush 137, 3) := dk_17 0 137 (dk_at dksX0_cast_2 17 rfl rfl)
theorem dX0_cast_68 : decode cX0_cast 68 = .ok (.imul, 1) := dk_104 (dk_at dksX0_cast_2 20 rfl rfl)
theorem dX0_cast_69 : decode cX0_cast 69 = .ok (.bipush 71, 2) := dk_16 71 (dk_at dksX0_cast_2 21 rfl rfl)
theorem dX0_cast_71 : decode cX0_cast 71 = .ok (.iadd, 1) := dk_96 (dk_at dksX0_cast_2 23 rfl rfl)
theorem dX0_cast_72 : decode cX0_cast 72 = .ok (.sipush 1000, 3) := dk_17 3 232 (dk_at dksX0_cast_3 0 rfl rfl)
theorem dX0_cast_75 : decode cX0_cast 75 = .ok (.irem, 1) := dk_112 (dk_at dksX0_cast_3 3 rfl rfl)
theorem dX0_cast_76 : decode cX0_cast 76 = .ok (.putfield 226, 3) := dk_181 0 226 (dk_at dksX0_cast_3 4 rfl rfl)
theorem dX0_cast_79 : decode cX0_cast 79 = .ok (.aload_n 0, 1) := dk_42 (dk_at dksX0_cast_3 7 rfl rfl)
theorem dX0_cast_80 : decode cX0_cast 80 = .ok (.getfield 31, 3) := dk_180 0 31 (dk_at dksX0_cast_3 8 rfl rfl)
theorem dX0_cast_83 : decode cX0_cast 83 = .ok (.getfield 154, 3) := dk_180 0 154 (dk_at dksX0_cast_3 11 rfl rfl)
theorem dX0_cast_86 : decode cX0_cast 86 = .ok (.istore 4, 2) := dk_54 4 (dk_at dksX0_cast_3 14 rfl rfl)
theorem dX0_cast_88 : decode cX0_cast 88 = .ok (.aload_n 0, 1) := dk_42 (dk_at dksX0_cast_3 16 rfl rfl)
theorem dX0_cast_89 : decode cX0_cast 89 = .ok (.getfield 31, 3) := dk_180 0 31 (dk_at dksX0_cast_3 17 rfl rfl)
theorem dX0_cast_92 : decode cX0_cast 92 = .ok (.getfield 164, 3) := dk_180 0 164 (dk_at dksX0_cast_3 20 rfl rfl)
theorem dX0_cast_95 : decode cX0_cast 95 = .ok (.iload 4, 2) := dk_21 4 (dk_at dksX0_cast_4 0 rfl rfl)
theorem dX0_cast_97 : decode cX0_cast 97 = .ok (.aload_n 0, 1) := dk_42 (dk_at dksX0_cast_4 2 rfl rfl)
theorem dX0_cast_98 : decode cX0_cast 98 = .ok (.getfield 20, 3) := dk_180 0 20 (dk_at dksX0_cast_4 3 rfl rfl)
theorem dX0_cast_101 : decode cX0_cast 101 = .ok (.aload_n 0, 1) := dk_42 (dk_at dksX0_cast_4 6 rfl rfl)
theorem dX0_cast_102 : decode cX0_cast 102 = .ok (.getfield 31, 3) := dk_180 0 31 (dk_at dksX0_cast_4 7 rfl rfl)
theorem dX0_cast_105 : decode cX0_cast 105 = .ok (.getfield 164, 3) := dk_180 0 164 (dk_at dksX0_cast_4 10 rfl rfl)
theorem dX0_cast_108 : decode cX0_cast 108 = .ok (.iload_n 1, 1) := dk_27 (dk_at dksX0_cast_4 13 rfl rfl)
theorem dX0_cast_109 : decode cX0_cast 109 = .ok (.iaload, 1) := dk_46 (dk_at dksX0_cast_4 14 rfl rfl)
theorem dX0_cast_110 : decode cX0_cast 110 = .ok (.iload_n 2, 1) := dk_28 (dk_at dksX0_cast_4 15 rfl rfl)
theorem dX0_cast_111 : decode cX0_cast 111 = .ok (.iload_n 3, 1) := dk_29 (dk_at dksX0_cast_4 16 rfl rfl)
theorem dX0_cast_112 : decode cX0_cast 112 = .ok (.aload_n 0, 1) := dk_42 (dk_at dksX0_cast_4 17 rfl rfl)
theorem dX0_cast_113 : decode cX0_cast 113 = .ok (.getfield 31, 3) := dk_180 0 31 (dk_at dksX0_cast_4 18 rfl rfl)
theorem dX0_cast_116 : decode cX0_cast 116 = .ok (.getfield 197, 3) := dk_180 0 197 (dk_at dksX0_cast_4 21 rfl rfl)
theorem dX0_cast_119 : decode cX0_cast 119 = .ok (.aload_n 0, 1) := dk_42 (dk_at dksX0_cast_5 0 rfl rfl)
theorem dX0_cast_120 : decode cX0_cast 120 = .ok (.getfield 31, 3) := dk_180 0 31 (dk_at dksX0_cast_5 1 rfl rfl)
theorem dX0_cast_123 : decode cX0_cast 123 = .ok (.getfield 226, 3) := dk_180 0 226 (dk_at dksX0_cast_5 4 rfl rfl)
theorem dX0_cast_126 : decode cX0_cast 126 = .ok (.bipush 100, 2) := dk_16 100 (dk_at dksX0_cast_5 7 rfl rfl)
theorem dX0_cast_128 : decode cX0_cast 128 = .ok (.irem, 1) := dk_112 (dk_at dksX0_cast_5 9 rfl rfl)
theorem dX0_cast_129 : decode cX0_cast 129 = .ok (.invokevirtual 200, 3) := dk_182 0 200 (dk_at dksX0_cast_5 10 rfl rfl)
theorem dX0_cast_132 : decode cX0_cast 132 = .ok (.iastore, 1) := dk_79 (dk_at dksX0_cast_5 13 rfl rfl)
theorem dX0_cast_133 : decode cX0_cast 133 = .ok (.aload_n 0, 1) := dk_42 (dk_at dksX0_cast_5 14 rfl rfl)
theorem dX0_cast_134 : decode cX0_cast 134 = .ok (.getfield 31, 3) := dk_180 0 31 (dk_at dksX0_cast_5 15 rfl rfl)
theorem dX0_cast_137 : decode cX0_cast 137 = .ok (.getfield 167, 3) := dk_180 0 167 (dk_at dksX0_cast_5 18 rfl rfl)
theorem dX0_cast_140 : decode cX0_cast 140 = .ok (.iload 4, 2) := dk_21 4 (dk_at dksX0_cast_5 21 rfl rfl)
theorem dX0_cast_142 : decode cX0_cast 142 = .ok (.iload_n 1, 1) := dk_27 (dk_at dksX0_cast_5 23 rfl rfl)
theorem dX0_cast_143 : decode cX0_cast 143 = .ok (.iastore, 1) := dk_79 (dk_at dksX0_cast_6 0 rfl rfl)
theorem dX0_cast_144 : decode cX0_cast 144 = .ok (.aload_n 0, 1) := dk_42 (dk_at dksX0_cast_6 1 rfl rfl)
theorem dX0_cast_145 : decode cX0_cast 145 = .ok (.getfield 31, 3) := dk_180 0 31 (dk_at dksX0_cast_6 2 rfl rfl)
theorem dX0_cast_148 : decode cX0_cast 148 = .ok (.getfield 170, 3) := dk_180 0 170 (dk_at dksX0_cast_6 5 rfl rfl)
theorem dX0_cast_151 : decode cX0_cast 151 = .ok (.iload 4, 2) := dk_21 4 (dk_at dksX0_cast_6 8 rfl rfl)
theorem dX0_cast_153 : decode cX0_cast 153 = .ok (.iload_n 2, 1) := dk_28 (dk_at dksX0_cast_6 10 rfl rfl)
theorem dX0_cast_154 : decode cX0_cast 154 = .ok (.iastore, 1) := dk_79 (dk_at dksX0_cast_6 11 rfl rfl)
theorem dX0_cast_155 : decode cX0_cast 155 = .ok (.aload_n 0, 1) := dk_42 (dk_at dksX0_cast_6 12 rfl rfl)
theorem dX0_cast_156 : decode cX0_cast 156 = .ok (.getfield 31, 3) := dk_180 0 31 (dk_at dksX0_cast_6 13 rfl rfl)
theorem dX0_cast_159 : decode cX0_cast 159 = .ok (.getfield 173, 3) := dk_180 0 173 (dk_at dksX0_cast_6 16 rfl rfl)
theorem dX0_cast_162 : decode cX0_cast 162 = .ok (.iload 4, 2) := dk_21 4 (dk_at dksX0_cast_6 19 rfl rfl)
theorem dX0_cast_164 : decode cX0_cast 164 = .ok (.aload_n 0, 1) := dk_42 (dk_at dksX0_cast_6 21 rfl rfl)
theorem dX0_cast_165 : decode cX0_cast 165 = .ok (.getfield 31, 3) := dk_180 0 31 (dk_at dksX0_cast_7 0 rfl rfl)
theorem dX0_cast_168 : decode cX0_cast 168 = .ok (.getfield 197, 3) := dk_180 0 197 (dk_at dksX0_cast_7 3 rfl rfl)
theorem dX0_cast_171 : decode cX0_cast 171 = .ok (.iastore, 1) := dk_79 (dk_at dksX0_cast_7 6 rfl rfl)
theorem dX0_cast_172 : decode cX0_cast 172 = .ok (.aload_n 0, 1) := dk_42 (dk_at dksX0_cast_7 7 rfl rfl)
theorem dX0_cast_173 : decode cX0_cast 173 = .ok (.getfield 31, 3) := dk_180 0 31 (dk_at dksX0_cast_7 8 rfl rfl)
theorem dX0_cast_176 : decode cX0_cast 176 = .ok (.dup, 1) := dk_89 (dk_at dksX0_cast_7 11 rfl rfl)
theorem dX0_cast_177 : decode cX0_cast 177 = .ok (.getfield 220, 3) := dk_180 0 220 (dk_at dksX0_cast_7 12 rfl rfl)
theorem dX0_cast_180 : decode cX0_cast 180 = .ok (.iconst 1, 1) := dk_4 (dk_at dksX0_cast_7 15 rfl rfl)
theorem dX0_cast_181 : decode cX0_cast 181 = .ok (.iload_n 3, 1) := dk_29 (dk_at dksX0_cast_7 16 rfl rfl)
theorem dX0_cast_182 : decode cX0_cast 182 = .ok (.iadd, 1) := dk_96 (dk_at dksX0_cast_7 17 rfl rfl)
theorem dX0_cast_183 : decode cX0_cast 183 = .ok (.isub, 1) := dk_100 (dk_at dksX0_cast_7 18 rfl rfl)
theorem dX0_cast_184 : decode cX0_cast 184 = .ok (.putfield 220, 3) := dk_181 0 220 (dk_at dksX0_cast_7 19 rfl rfl)
theorem dX0_cast_187 : decode cX0_cast 187 = .ok (.aload_n 0, 1) := dk_42 (dk_at dksX0_cast_7 22 rfl rfl)
theorem dX0_cast_188 : decode cX0_cast 188 = .ok (.getfield 31, 3) := dk_180 0 31 (dk_at dksX0_cast_8 0 rfl rfl)
theorem dX0_cast_191 : decode cX0_cast 191 = .ok (.dup, 1) := dk_89 (dk_at dksX0_cast_8 3 rfl rfl)
theorem dX0_cast_192 : decode cX0_cast 192 = .ok (.getfield 154, 3) := dk_180 0 154 (dk_at dksX0_cast_8 4 rfl rfl)
theorem dX0_cast_195 : decode cX0_cast 195 = .ok (.iconst 1, 1) := dk_4 (dk_at dksX0_cast_8 7 rfl rfl)
theorem dX0_cast_196 : decode cX0_cast 196 = .ok (.iadd, 1) := dk_96 (dk_at dksX0_cast_8 8 rfl rfl)
theorem dX0_cast_197 : decode cX0_cast 197 = .ok (.putfield 154, 3) := dk_181 0 154 (dk_at dksX0_cast_8 9 rfl rfl)
theorem dX0_cast_200 : decode cX0_cast 200 = .ok (.iload 4, 2) := dk_21 4 (dk_at dksX0_cast_8 12 rfl rfl)
theorem dX0_cast_202 : decode cX0_cast 202 = .ok (.ireturn, 1) := dk_172 (dk_at dksX0_cast_8 14 rfl rfl)
abbrev cX0_act : ByteArray := prog_1_method_20_code
def yX0_act : MethodName := ⟨RX0, "act", "()V"⟩
def dkwX0_act_3 : List UInt8 := [180, 0, 115, 4, 96, 181, 0, 115, 42, 3, 181, 0, 118, 177]
abbrev dktX0_act_3 : List UInt8 := dkwX0_act_3 ++ []
def dkwX0_act_2 : List UInt8 := [181, 0, 115, 42, 180, 0, 38, 42, 180, 0, 115, 50, 42, 180, 0, 31, 182, 0, 216, 87, 42, 89]
abbrev dktX0_act_2 : List UInt8 := dkwX0_act_2 ++ dktX0_act_3
def dkwX0_act_1 : List UInt8 := [180, 0, 38, 3, 16, 39, 184, 0, 210, 42, 180, 0, 38, 16, 39, 43, 83, 42, 89, 180, 0, 115, 4, 100]
abbrev dktX0_act_1 : List UInt8 := dkwX0_act_1 ++ dktX0_act_2
def dkwX0_act_0 : List UInt8 := [42, 180, 0, 115, 16, 40, 160, 0, 43, 42, 180, 0, 38, 3, 50, 76, 42, 180, 0, 38, 4, 42]
abbrev dktX0_act_0 : List UInt8 := dkwX0_act_0 ++ dktX0_act_1
theorem dksX0_act_0 : cX0_act.data.toList.drop 0 = dktX0_act_0 := by decide +kernel
theorem dksX0_act_1 : cX0_act.data.toList.drop 22 = dktX0_act_1 := dk_seg dksX0_act_0 22 rfl rfl
theorem dksX0_act_2 : cX0_act.data.toList.drop 46 = dktX0_act_2 := dk_seg dksX0_act_1 24 rfl rfl
theorem dksX0_act_3 : cX0_act.data.toList.drop 68 = dktX0_act_3 := dk_seg dksX0_act_2 22 rfl rfl
theorem dX0_act_0 : decode cX0_act 0 = .ok (.aload_n 0, 1) := dk_42 (dk_at dksX0_act_0 0 rfl rfl)
theorem dX0_act_1 : decode cX0_act 1 = .ok (.getfield 115, 3) := dk_180 0 115 (dk_at dksX0_act_0 1 rfl rfl)
theorem dX0_act_4 : decode cX0_act 4 = .ok (.bipush 40, 2) := dk_16 40 (dk_at dksX0_act_0 4 rfl rfl)
theorem dX0_act_6 : decode cX0_act 6 = .ok (.if_icmp .ne 43, 3) := dk_160 0 43 (dk_at dksX0_act_0 6 rfl rfl)
theorem dX0_act_9 : decode cX0_act 9 = .ok (.aload_n 0, 1) := dk_42 (dk_at dksX0_act_0 9 rfl rfl)
theorem dX0_act_10 : decode cX0_act 10 = .ok (.getfield 38, 3) := dk_180 0 38 (dk_at dksX0_act_0 10 rfl rfl)
theorem dX0_act_13 : decode cX0_act 13 = .ok (.iconst 0, 1) := dk_3 (dk_at dksX0_act_0 13 rfl rfl)
theorem dX0_act_14 : decode cX0_act 14 = .ok (.aaload, 1) := dk_50 (dk_at dksX0_act_0 14 rfl rfl)
theorem dX0_act_15 : decode cX0_act 15 = .ok (.astore_n 1, 1) := dk_76 (dk_at dksX0_act_0 15 rfl rfl)
theorem dX0_act_16 : decode cX0_act 16 = .ok (.aload_n 0, 1) := dk_42 (dk_at dksX0_act_0 16 rfl rfl)
theorem dX0_act_17 : decode cX0_act 17 = .ok (.getfield 38, 3) := dk_180 0 38 (dk_at dksX0_act_0 17 rfl rfl)
theorem dX0_act_20 : decode cX0_act 20 = .ok (.iconst 1, 1) := dk_4 (dk_at dksX0_act_0 20 rfl rfl)
theorem dX0_act_21 : decode cX0_act 21 = .ok (.aload_n 0, 1) := dk_42 (dk_at dksX0_act_0 21 rfl rfl)
theorem dX0_act_22 : decode cX0_act 22 = .ok (.getfield 38, 3) := dk_180 0 38 (dk_at dksX0_act_1 0 rfl rfl)
theorem dX0_act_25 : decode cX0_act 25 = .ok (.iconst 0, 1) := dk_3 (dk_at dksX0_act_1 3 rfl rfl)
theorem dX0_act_26 : decode cX0_act 26 = .ok (.bipush 39, 2) := dk_16 39 (dk_at dksX0_act_1 4 rfl rfl)
theorem dX0_act_28 : decode cX0_act 28 = .ok (.invokestatic 210, 3) := dk_184 0 210 (dk_at dksX0_act_1 6 rfl rfl)
theorem dX0_act_31 : decode cX0_act 31 = .ok (.aload_n 0, 1) := dk_42 (dk_at dksX0_act_1 9 rfl rfl)
theorem dX0_act_32 : decode cX0_act 32 = .ok (.getfield 38, 3) := dk_180 0 38 (dk_at dksX0_act_1 10 rfl rfl)
theorem dX0_act_35 : decode cX0_act 35 = .ok (.bipush 39, 2) := dk_16 39 (dk_at dksX0_act_1 13 rfl rfl)
theorem dX0_act_37 : decode cX0_act 37 = .ok (.aload_n 1, 1) := dk_43 (dk_at dksX0_act_1 15 rfl rfl)
theorem dX0_act_38 : decode cX0_act 38 = .ok (.aastore, 1) := dk_83 (dk_at dksX0_act_1 16 rfl rfl)
theorem dX0_act_39 : decode cX0_act 39 = .ok (.aload_n 0, 1) := dk_42 (dk_at dksX0_act_1 17 rfl rfl)
theorem dX0_act_40 : decode cX0_act 40 = .ok (.dup, 1) := dk_89 (dk_at dksX0_act_1 18 rfl rfl)
theorem dX0_act_41 : decode cX0_act 41 = .ok (.getfield 115, 3) := dk_180 0 115 (dk_at dksX0_act_1 19 rfl rfl)
theorem dX0_act_44 : decode cX0_act 44 = .ok (.iconst 1, 1) := dk_4 (dk_at dksX0_act_1 22 rfl rfl)
theorem dX0_act_45 : decode cX0_act 45 = .ok (.isub, 1) := dk_100 (dk_at dksX0_act_1 23 rfl rfl)
theorem dX0_act_46 : decode cX0_act 46 = .ok (.putfield 115, 3) := dk_181 0 115 (dk_at dksX0_act_2 0 rfl rfl)
theorem dX0_act_49 : decode cX0_act 49 = .ok (.aload_n 0, 1) := dk_42 (dk_at dksX0_act_2 3 rfl rfl)
theorem dX0_act_50 : decode cX0_act 50 = .ok (.getfield 38, 3) := dk_180 0 38 (dk_at dksX0_act_2 4 rfl rfl)
theorem dX0_act_53 : decode cX0_act 53 = .ok (.aload_n 0, 1) := dk_42 (dk_at dksX0_act_2 7 rfl rfl)
theorem dX0_act_54 : decode cX0_act 54 = .ok (.getfield 115, 3) := dk_180 0 115 (dk_at dksX0_act_2 8 rfl rfl)
theorem dX0_act_57 : decode cX0_act 57 = .ok (.aaload, 1) := dk_50 (dk_at dksX0_act_2 11 rfl rfl)
theorem dX0_act_58 : decode cX0_act 58 = .ok (.aload_n 0, 1) := dk_42 (dk_at dksX0_act_2 12 rfl rfl)
theorem dX0_act_59 : decode cX0_act 59 = .ok (.getfield 31, 3) := dk_180 0 31 (dk_at dksX0_act_2 13 rfl rfl)
theorem dX0_act_62 : decode cX0_act 62 = .ok (.invokevirtual 216, 3) := dk_182 0 216 (dk_at dksX0_act_2 16 rfl rfl)
theorem dX0_act_65 : decode cX0_act 65 = .ok (.pop, 1) := dk_87 (dk_at dksX0_act_2 19 rfl rfl)
theorem dX0_act_66 : decode cX0_act 66 = .ok (.aload_n 0, 1) := dk_42 (dk_at dksX0_act_2 20 rfl rfl)
theorem dX0_act_67 : decode cX0_act 67 = .ok (.dup, 1) := dk_89 (dk_at dksX0_act_2 21 rfl rfl)
theorem dX0_act_68 : decode cX0_act 68 = .ok (.getfield 115, 3) := dk_180 0 115 (dk_at dksX0_act_3 0 rfl rfl)
theorem dX0_act_71 : decode cX0_act 71 = .ok (.iconst 1, 1) := dk_4 (dk_at dksX0_act_3 3 rfl rfl)
theorem dX0_act_72 : decode cX0_act 72 = .ok (.iadd, 1) := dk_96 (dk_at dksX0_act_3 4 rfl rfl)
theorem dX0_act_73 : decode cX0_act 73 = .ok (.putfield 115, 3) := dk_181 0 115 (dk_at dksX0_act_3 5 rfl rfl)
theorem dX0_act_76 : decode cX0_act 76 = .ok (.aload_n 0, 1) := dk_42 (dk_at dksX0_act_3 8 rfl rfl)
theorem dX0_act_77 : decode cX0_act 77 = .ok (.iconst 0, 1) := dk_3 (dk_at dksX0_act_3 9 rfl rfl)
theorem dX0_act_78 : decode cX0_act 78 = .ok (.putfield 118, 3) := dk_181 0 118 (dk_at dksX0_act_3 10 rfl rfl)
theorem dX0_act_81 : decode cX0_act 81 = .ok (.return_, 1) := dk_177 (dk_at dksX0_act_3 13 rfl rfl)
abbrev cX0_print : ByteArray := prog_1_method_23_code
def yX0_print : MethodName := ⟨RX0, "print", "(I)I"⟩
def dkwX0_print_5 : List UInt8 := [180, 0, 180, 4, 96, 181, 0, 180, 28, 172]
abbrev dktX0_print_5 : List UInt8 := dkwX0_print_5 ++ []
def dkwX0_print_4 : List UInt8 := [180, 0, 197, 79, 42, 180, 0, 31, 89, 180, 0, 220, 4, 100, 181, 0, 220, 42, 180, 0, 31, 89]
abbrev dktX0_print_4 : List UInt8 := dkwX0_print_4 ++ dktX0_print_5
def dkwX0_print_3 : List UInt8 := [42, 180, 0, 31, 180, 0, 186, 28, 27, 79, 42, 180, 0, 31, 180, 0, 189, 28, 42, 180, 0, 31]
abbrev dktX0_print_3 : List UInt8 := dkwX0_print_3 ++ dktX0_print_4
def dkwX0_print_2 : List UInt8 := [180, 0, 31, 180, 0, 183, 28, 42, 180, 0, 20, 42, 180, 0, 31, 180, 0, 164, 27, 46, 182, 0, 195, 79]
abbrev dktX0_print_2 : List UInt8 := dkwX0_print_2 ++ dktX0_print_3
def dkwX0_print_1 : List UInt8 := [180, 0, 220, 4, 162, 0, 5, 2, 172, 42, 182, 0, 223, 42, 180, 0, 31, 180, 0, 180, 61, 42]
abbrev dktX0_print_1 : List UInt8 := dkwX0_print_1 ++ dktX0_print_2
def dkwX0_print_0 : List UInt8 := [42, 27, 182, 0, 160, 153, 0, 26, 42, 180, 0, 31, 180, 0, 180, 16, 40, 159, 0, 14, 42, 180, 0, 31]
abbrev dktX0_print_0 : List UInt8 := dkwX0_print_0 ++ dktX0_print_1
theorem dksX0_print_0 : cX0_print.data.toList.drop 0 = dktX0_print_0 := by decide +kernel
theorem dksX0_print_1 : cX0_print.data.toList.drop 24 = dktX0_print_1 := dk_seg dksX0_print_0 24 rfl rfl
theorem dksX0_print_2 : cX0_print.data.toList.drop 46 = dktX0_print_2 := dk_seg dksX0_print_1 22 rfl rfl
theorem dksX0_print_3 : cX0_print.data.toList.drop 70 = dktX0_print_3 := dk_seg dksX0_print_2 24 rfl rfl
theorem dksX0_print_4 : cX0_print.data.toList.drop 92 = dktX0_print_4 := dk_seg dksX0_print_3 22 rfl rfl
theorem dksX0_print_5 : cX0_print.data.toList.drop 114 = dktX0_print_5 := dk_seg dksX0_print_4 22 rfl rfl
theorem dX0_print_0 : decode cX0_print 0 = .ok (.aload_n 0, 1) := dk_42 (dk_at dksX0_print_0 0 rfl rfl)
theorem dX0_print_1 : decode cX0_print 1 = .ok (.iload_n 1, 1) := dk_27 (dk_at dksX0_print_0 1 rfl rfl)
theorem dX0_print_2 : decode cX0_print 2 = .ok (.invokevirtual 160, 3) := dk_182 0 160 (dk_at dksX0_print_0 2 rfl rfl)
theorem dX0_print_5 : decode cX0_print 5 = .ok (.ifCond .eq 26, 3) := dk_153 0 26 (dk_at dksX0_print_0 5 rfl rfl)
theorem dX0_print_8 : decode cX0_print 8 = .ok (.aload_n 0, 1) := dk_42 (dk_at dksX0_print_0 8 rfl rfl)
theorem dX0_print_9 : decode cX0_print 9 = .ok (.getfield 31, 3) := dk_180 0 31 (dk_at dksX0_print_0 9 rfl rfl)
theorem dX0_print_12 : decode cX0_print 12 = .ok (.getfield 180, 3) := dk_180 0 180 (dk_at dksX0_print_0 12 rfl rfl)
theorem dX0_print_15 : decode cX0_print 15 = .ok (.bipush 40, 2) := dk_16 40 (dk_at dksX0_print_0 15 rfl rfl)
theorem dX0_print_17 : decode cX0_print 17 = .ok (.if_icmp .eq 14, 3) := dk_159 0 14 (dk_at dksX0_print_0 17 rfl rfl)
theorem dX0_print_20 : decode cX0_print 20 = .ok (.aload_n 0, 1) := dk_42 (dk_at dksX0_print_0 20 rfl rfl)
theorem dX0_print_21 : decode cX0_print 21 = .ok (.getfield 31, 3) := dk_180 0 31 (dk_at dksX0_print_0 21 rfl rfl)
theorem dX0_print_24 : decode cX0_print 24 = .ok (.getfield 220, 3) := dk_180 0 220 (dk_at dksX0_print_1 0 rfl rfl)
theorem dX0_print_27 : decode cX0_print 27 = .ok (.iconst 1, 1) := dk_4 (dk_at dksX0_print_1 3 rfl rfl)
theorem dX0_print_28 : decode cX0_print 28 = .ok (.if_icmp .ge 5, 3) := dk_162 0 5 (dk_at dksX0_print_1 4 rfl rfl)
theorem dX0_print_31 : decode cX0_print 31 = .ok (.iconst (-1), 1) := dk_2 (dk_at dksX0_print_1 7 rfl rfl)
theorem dX0_print_32 : decode cX0_print 32 = .ok (.ireturn, 1) := dk_172 (dk_at dksX0_print_1 8 rfl rfl)
theorem dX0_print_33 : decode cX0_print 33 = .ok (.aload_n 0, 1) := dk_42 (dk_at dksX0_print_1 9 rfl rfl)
theorem dX0_print_34 : decode cX0_print 34 = .ok (.invokevirtual 223, 3) := dk_182 0 223 (dk_at dksX0_print_1 10 rfl rfl)
theorem dX0_print_37 : decode cX0_print 37 = .ok (.aload_n 0, 1) := dk_42 (dk_at dksX0_print_1 13 rfl rfl)
theorem dX0_print_38 : decode cX0_print 38 = .ok (.getfield 31, 3) := dk_180 0 31 (dk_at dksX0_print_1 14 rfl rfl)
theorem dX0_print_41 : decode cX0_print 41 = .ok (.getfield 180, 3) := dk_180 0 180 (dk_at dksX0_print_1 17 rfl rfl)
theorem dX0_print_44 : decode cX0_print 44 = .ok (.istore_n 2, 1) := dk_61 (dk_at dksX0_print_1 20 rfl rfl)
theorem dX0_print_45 : decode cX0_print 45 = .ok (.aload_n 0, 1) := dk_42 (dk_at dksX0_print_1 21 rfl rfl)
theorem dX0_print_46 : decode cX0_print 46 = .ok (.getfield 31, 3) := dk_180 0 31 (dk_at dksX0_print_2 0 rfl rfl)
theorem dX0_print_49 : decode cX0_print 49 = .ok (.getfield 183, 3) := dk_180 0 183 (dk_at dksX0_print_2 3 rfl rfl)
theorem dX0_print_52 : decode cX0_print 52 = .ok (.iload_n 2, 1) := dk_28 (dk_at dksX0_print_2 6 rfl rfl)
theorem dX0_print_53 : decode cX0_print 53 = .ok (.aload_n 0, 1) := dk_42 (dk_at dksX0_print_2 7 rfl rfl)
theorem dX0_print_54 : decode cX0_print 54 = .ok (.getfield 20, 3) := dk_180 0 20 (dk_at dksX0_print_2 8 rfl rfl)
theorem dX0_print_57 : decode cX0_print 57 = .ok (.aload_n 0, 1) := dk_42 (dk_at dksX0_print_2 11 rfl rfl)
theorem dX0_print_58 : decode cX0_print 58 = .ok (.getfield 31, 3) := dk_180 0 31 (dk_at dksX0_print_2 12 rfl rfl)
theorem dX0_print_61 : decode cX0_print 61 = .ok (.getfield 164, 3) := dk_180 0 164 (dk_at dksX0_print_2 15 rfl rfl)
theorem dX0_print_64 : decode cX0_print 64 = .ok (.iload_n 1, 1) := dk_27 (dk_at dksX0_print_2 18 rfl rfl)
theorem dX0_print_65 : decode cX0_print 65 = .ok (.iaload, 1) := dk_46 (dk_at dksX0_print_2 19 rfl rfl)
theorem dX0_print_66 : decode cX0_print 66 = .ok (.invokevirtual 195, 3) := dk_182 0 195 (dk_at dksX0_print_2 20 rfl rfl)
theorem dX0_print_69 : decode cX0_print 69 = .ok (.iastore, 1) := dk_79 (dk_at dksX0_print_2 23 rfl rfl)
theorem dX0_print_70 : decode cX0_print 70 = .ok (.aload_n 0, 1) := dk_42 (dk_at dksX0_print_3 0 rfl rfl)
theorem dX0_print_71 : decode cX0_print 71 = .ok (.getfield 31, 3) := dk_180 0 31 (dk_at dksX0_print_3 1 rfl rfl)
theorem dX0_print_74 : decode cX0_print 74 = .ok (.getfield 186, 3) := dk_180 0 186 (dk_at dksX0_print_3 4 rfl rfl)
theorem dX0_print_77 : decode cX0_print 77 = .ok (.iload_n 2, 1) := dk_28 (dk_at dksX0_print_3 7 rfl rfl)
theorem dX0_print_78 : decode cX0_print 78 = .ok (.iload_n 1, 1) := dk_27 (dk_at dksX0_print_3 8 rfl rfl)
theorem dX0_print_79 : decode cX0_print 79 = .ok (.iastore, 1) := dk_79 (dk_at dksX0_print_3 9 rfl rfl)
theorem dX0_print_80 : decode cX0_print 80 = .ok (.aload_n 0, 1) := dk_42 (dk_at dksX0_print_3 10 rfl rfl)
theorem dX0_print_81 : decode cX0_print 81 = .ok (.getfield 31, 3) := dk_180 0 31 (dk_at dksX0_print_3 11 rfl rfl)
theorem dX0_print_84 : decode cX0_print 84 = .ok (.getfield 189, 3) := dk_180 0 189 (dk_at dksX0_print_3 14 rfl rfl)
theorem dX0_print_87 : decode cX0_print 87 = .ok (.iload_n 2, 1) := dk_28 (dk_at dksX0_print_3 17 rfl rfl)
theorem dX0_print_88 : decode cX0_print 88 = .ok (.aload_n 0, 1) := dk_42 (dk_at dksX0_print_3 18 rfl rfl)
theorem dX0_print_89 : decode cX0_print 89 = .ok (.getfield 31, 3) := dk_180 0 31 (dk_at dksX0_print_3 19 rfl rfl)
theorem dX0_print_92 : decode cX0_print 92 = .ok (.getfield 197, 3) := dk_180 0 197 (dk_at dksX0_print_4 0 rfl rfl)
theorem dX0_print_95 : decode cX0_print 95 = .ok (.iastore, 1) := dk_79 (dk_at dksX0_print_4 3 rfl rfl)
theorem dX0_print_96 : decode cX0_print 96 = .ok (.aload_n 0, 1) := dk_42 (dk_at dksX0_print_4 4 rfl rfl)
theorem dX0_print_97 : decode cX0_print 97 = .ok (.getfield 31, 3) := dk_180 0 31 (dk_at dksX0_print_4 5 rfl rfl)
theorem dX0_print_100 : decode cX0_print 100 = .ok (.dup, 1) := dk_89 (dk_at dksX0_print_4 8 rfl rfl)
theorem dX0_print_101 : decode cX0_print 101 = .ok (.getfield 220, 3) := dk_180 0 220 (dk_at dksX0_print_4 9 rfl rfl)
theorem dX0_print_104 : decode cX0_print 104 = .ok (.iconst 1, 1) := dk_4 (dk_at dksX0_print_4 12 rfl rfl)
theorem dX0_print_105 : decode cX0_print 105 = .ok (.isub, 1) := dk_100 (dk_at dksX0_print_4 13 rfl rfl)
theorem dX0_print_106 : decode cX0_print 106 = .ok (.putfield 220, 3) := dk_181 0 220 (dk_at dksX0_print_4 14 rfl rfl)
theorem dX0_print_109 : decode cX0_print 109 = .ok (.aload_n 0, 1) := dk_42 (dk_at dksX0_print_4 17 rfl rfl)
theorem dX0_print_110 : decode cX0_print 110 = .ok (.getfield 31, 3) := dk_180 0 31 (dk_at dksX0_print_4 18 rfl rfl)
theorem dX0_print_113 : decode cX0_print 113 = .ok (.dup, 1) := dk_89 (dk_at dksX0_print_4 21 rfl rfl)
theorem dX0_print_114 : decode cX0_print 114 = .ok (.getfield 180, 3) := dk_180 0 180 (dk_at dksX0_print_5 0 rfl rfl)
theorem dX0_print_117 : decode cX0_print 117 = .ok (.iconst 1, 1) := dk_4 (dk_at dksX0_print_5 3 rfl rfl)
theorem dX0_print_118 : decode cX0_print 118 = .ok (.iadd, 1) := dk_96 (dk_at dksX0_print_5 4 rfl rfl)
theorem dX0_print_119 : decode cX0_print 119 = .ok (.putfield 180, 3) := dk_181 0 180 (dk_at dksX0_print_5 5 rfl rfl)
theorem dX0_print_122 : decode cX0_print 122 = .ok (.iload_n 2, 1) := dk_28 (dk_at dksX0_print_5 8 rfl rfl)
theorem dX0_print_123 : decode cX0_print 123 = .ok (.ireturn, 1) := dk_172 (dk_at dksX0_print_5 9 rfl rfl)
abbrev cX0_crack : ByteArray := prog_1_method_24_code
def yX0_crack : MethodName := ⟨RX0, "crack", "(II)Z"⟩
def dkwX0_crack_2 : List UInt8 := [4, 28, 120, 2, 130, 126, 79, 4, 172]
abbrev dktX0_crack_2 : List UInt8 := dkwX0_crack_2 ++ []
def dkwX0_crack_1 : List UInt8 := [46, 28, 122, 4, 126, 154, 0, 5, 3, 172, 42, 182, 0, 223, 42, 180, 0, 31, 180, 0, 164, 27, 92, 46]
abbrev dktX0_crack_1 : List UInt8 := dkwX0_crack_1 ++ dktX0_crack_2
def dkwX0_crack_0 : List UInt8 := [42, 27, 182, 0, 160, 153, 0, 27, 42, 28, 182, 0, 229, 153, 0, 19, 42, 180, 0, 31, 180, 0, 164, 27]
abbrev dktX0_crack_0 : List UInt8 := dkwX0_crack_0 ++ dktX0_crack_1
theorem dksX0_crack_0 : cX0_crack.data.toList.drop 0 = dktX0_crack_0 := by decide +kernel
theorem dksX0_crack_1 : cX0_crack.data.toList.drop 24 = dktX0_crack_1 := dk_seg dksX0_crack_0 24 rfl rfl
theorem dksX0_crack_2 : cX0_crack.data.toList.drop 48 = dktX0_crack_2 := dk_seg dksX0_crack_1 24 rfl rfl
theorem dX0_crack_0 : decode cX0_crack 0 = .ok (.aload_n 0, 1) := dk_42 (dk_at dksX0_crack_0 0 rfl rfl)
theorem dX0_crack_1 : decode cX0_crack 1 = .ok (.iload_n 1, 1) := dk_27 (dk_at dksX0_crack_0 1 rfl rfl)
theorem dX0_crack_2 : decode cX0_crack 2 = .ok (.invokevirtual 160, 3) := dk_182 0 160 (dk_at dksX0_crack_0 2 rfl rfl)
theorem dX0_crack_5 : decode cX0_crack 5 = .ok (.ifCond .eq 27, 3) := dk_153 0 27 (dk_at dksX0_crack_0 5 rfl rfl)
theorem dX0_crack_8 : decode cX0_crack 8 = .ok (.aload_n 0, 1) := dk_42 (dk_at dksX0_crack_0 8 rfl rfl)
theorem dX0_crack_9 : decode cX0_crack 9 = .ok (.iload_n 2, 1) := dk_28 (dk_at dksX0_crack_0 9 rfl rfl)
theorem dX0_crack_10 : decode cX0_crack 10 = .ok (.invokevirtual 229, 3) := dk_182 0 229 (dk_at dksX0_crack_0 10 rfl rfl)
theorem dX0_crack_13 : decode cX0_crack 13 = .ok (.ifCond .eq 19, 3) := dk_153 0 19 (dk_at dksX0_crack_0 13 rfl rfl)
theorem dX0_crack_16 : decode cX0_crack 16 = .ok (.aload_n 0, 1) := dk_42 (dk_at dksX0_crack_0 16 rfl rfl)
theorem dX0_crack_17 : decode cX0_crack 17 = .ok (.getfield 31, 3) := dk_180 0 31 (dk_at dksX0_crack_0 17 rfl rfl)
theorem dX0_crack_20 : decode cX0_crack 20 = .ok (.getfield 164, 3) := dk_180 0 164 (dk_at dksX0_crack_0 20 rfl rfl)
theorem dX0_crack_23 : decode cX0_crack 23 = .ok (.iload_n 1, 1) := dk_27 (dk_at dksX0_crack_0 23 rfl rfl)
theorem dX0_crack_24 : decode cX0_crack 24 = .ok (.iaload, 1) := dk_46 (dk_at dksX0_crack_1 0 rfl rfl)
theorem dX0_crack_25 : decode cX0_crack 25 = .ok (.iload_n 2, 1) := dk_28 (dk_at dksX0_crack_1 1 rfl rfl)
theorem dX0_crack_26 : decode cX0_crack 26 = .ok (.ishr, 1) := dk_122 (dk_at dksX0_crack_1 2 rfl rfl)
theorem dX0_crack_27 : decode cX0_crack 27 = .ok (.iconst 1, 1) := dk_4 (dk_at dksX0_crack_1 3 rfl rfl)
theorem dX0_crack_28 : decode cX0_crack 28 = .ok (.iand, 1) := dk_126 (dk_at dksX0_crack_1 4 rfl rfl)
theorem dX0_crack_29 : decode cX0_crack 29 = .ok (.ifCond .ne 5, 3) := dk_154 0 5 (dk_at dksX0_crack_1 5 rfl rfl)
theorem dX0_crack_32 : decode cX0_crack 32 = .ok (.iconst 0, 1) := dk_3 (dk_at dksX0_crack_1 8 rfl rfl)
theorem dX0_crack_33 : decode cX0_crack 33 = .ok (.ireturn, 1) := dk_172 (dk_at dksX0_crack_1 9 rfl rfl)
theorem dX0_crack_34 : decode cX0_crack 34 = .ok (.aload_n 0, 1) := dk_42 (dk_at dksX0_crack_1 10 rfl rfl)
theorem dX0_crack_35 : decode cX0_crack 35 = .ok (.invokevirtual 223, 3) := dk_182 0 223 (dk_at dksX0_crack_1 11 rfl rfl)
theorem dX0_crack_38 : decode cX0_crack 38 = .ok (.aload_n 0, 1) := dk_42 (dk_at dksX0_crack_1 14 rfl rfl)
theorem dX0_crack_39 : decode cX0_crack 39 = .ok (.getfield 31, 3) := dk_180 0 31 (dk_at dksX0_crack_1 15 rfl rfl)
theorem dX0_crack_42 : decode cX0_crack 42 = .ok (.getfield 164, 3) := dk_180 0 164 (dk_at dksX0_crack_1 18 rfl rfl)
theorem dX0_crack_45 : decode cX0_crack 45 = .ok (.iload_n 1, 1) := dk_27 (dk_at dksX0_crack_1 21 rfl rfl)
theorem dX0_crack_46 : decode cX0_crack 46 = .ok (.dup2, 1) := dk_92 (dk_at dksX0_crack_1 22 rfl rfl)
theorem dX0_crack_47 : decode cX0_crack 47 = .ok (.iaload, 1) := dk_46 (dk_at dksX0_crack_1 23 rfl rfl)
theorem dX0_crack_48 : decode cX0_crack 48 = .ok (.iconst 1, 1) := dk_4 (dk_at dksX0_crack_2 0 rfl rfl)
theorem dX0_crack_49 : decode cX0_crack 49 = .ok (.iload_n 2, 1) := dk_28 (dk_at dksX0_crack_2 1 rfl rfl)
theorem dX0_crack_50 : decode cX0_crack 50 = .ok (.ishl, 1) := dk_120 (dk_at dksX0_crack_2 2 rfl rfl)
theorem dX0_crack_51 : decode cX0_crack 51 = .ok (.iconst (-1), 1) := dk_2 (dk_at dksX0_crack_2 3 rfl rfl)
theorem dX0_crack_52 : decode cX0_crack 52 = .ok (.ixor, 1) := dk_130 (dk_at dksX0_crack_2 4 rfl rfl)
theorem dX0_crack_53 : decode cX0_crack 53 = .ok (.iand, 1) := dk_126 (dk_at dksX0_crack_2 5 rfl rfl)
theorem dX0_crack_54 : decode cX0_crack 54 = .ok (.iastore, 1) := dk_79 (dk_at dksX0_crack_2 6 rfl rfl)
theorem dX0_crack_55 : decode cX0_crack 55 = .ok (.iconst 1, 1) := dk_4 (dk_at dksX0_crack_2 7 rfl rfl)
theorem dX0_crack_56 : decode cX0_crack 56 = .ok (.ireturn, 1) := dk_172 (dk_at dksX0_crack_2 8 rfl rfl)
abbrev cX0_isMark : ByteArray := prog_1_method_12_code
def yX0_isMark : MethodName := ⟨RX0, "isMark", "(I)Z"⟩
def dkwX0_isMark_0 : List UInt8 := [27, 3, 42, 180, 0, 20, 180, 0, 147, 4, 100, 184, 0, 150, 172]
abbrev dktX0_isMark_0 : List UInt8 := dkwX0_isMark_0 ++ []
theorem dksX0_isMark_0 : cX0_isMark.data.toList.drop 0 = dktX0_isMark_0 := by decide +kernel
theorem dX0_isMark_0 : decode cX0_isMark 0 = .ok (.iload_n 1, 1) := dk_27 (dk_at dksX0_isMark_0 0 rfl rfl)
theorem dX0_isMark_1 : decode cX0_isMark 1 = .ok (.iconst 0, 1) := dk_3 (dk_at dksX0_isMark_0 1 rfl rfl)
theorem dX0_isMark_2 : decode cX0_isMark 2 = .ok (.aload_n 0, 1) := dk_42 (dk_at dksX0_isMark_0 2 rfl rfl)
theorem dX0_isMark_3 : decode cX0_isMark 3 = .ok (.getfield 20, 3) := dk_180 0 20 (dk_at dksX0_isMark_0 3 rfl rfl)
theorem dX0_isMark_6 : decode cX0_isMark 6 = .ok (.getfield 147, 3) := dk_180 0 147 (dk_at dksX0_isMark_0 6 rfl rfl)
theorem dX0_isMark_9 : decode cX0_isMark 9 = .ok (.iconst 1, 1) := dk_4 (dk_at dksX0_isMark_0 9 rfl rfl)
theorem dX0_isMark_10 : decode cX0_isMark 10 = .ok (.isub, 1) := dk_100 (dk_at dksX0_isMark_0 10 rfl rfl)
theorem dX0_isMark_11 : decode cX0_isMark 11 = .ok (.invokestatic 150, 3) := dk_184 0 150 (dk_at dksX0_isMark_0 11 rfl rfl)
theorem dX0_isMark_14 : decode cX0_isMark 14 = .ok (.ireturn, 1) := dk_172 (dk_at dksX0_isMark_0 14 rfl rfl)
abbrev cX0_year : ByteArray := prog_1_method_25_code
def yX0_year : MethodName := ⟨RX0, "year", "()I"⟩
def dkwX0_year_1 : List UInt8 := [180, 0, 197, 4, 96, 181, 0, 197, 42, 180, 0, 31, 180, 0, 197, 172]
abbrev dktX0_year_1 : List UInt8 := dkwX0_year_1 ++ []
def dkwX0_year_0 : List UInt8 := [42, 180, 0, 31, 180, 0, 197, 17, 3, 231, 160, 0, 5, 2, 172, 42, 182, 0, 223, 42, 180, 0, 31, 89]
abbrev dktX0_year_0 : List UInt8 := dkwX0_year_0 ++ dktX0_year_1
theorem dksX0_year_0 : cX0_year.data.toList.drop 0 = dktX0_year_0 := by decide +kernel
theorem dksX0_year_1 : cX0_year.data.toList.drop 24 = dktX0_year_1 := dk_seg dksX0_year_0 24 rfl rfl
theorem dX0_year_0 : decode cX0_year 0 = .ok (.aload_n 0, 1) := dk_42 (dk_at dksX0_year_0 0 rfl rfl)
theorem dX0_year_1 : decode cX0_year 1 = .ok (.getfield 31, 3) := dk_180 0 31 (dk_at dksX0_year_0 1 rfl rfl)
theorem dX0_year_4 : decode cX0_year 4 = .ok (.getfield 197, 3) := dk_180 0 197 (dk_at dksX0_year_0 4 rfl rfl)
theorem dX0_year_7 : decode cX0_year 7 = .ok (.sipush 999, 3) := dk_17 3 231 (dk_at dksX0_year_0 7 rfl rfl)
theorem dX0_year_10 : decode cX0_year 10 = .ok (.if_icmp .ne 5, 3) := dk_160 0 5 (dk_at dksX0_year_0 10 rfl rfl)
theorem dX0_year_13 : decode cX0_year 13 = .ok (.iconst (-1), 1) := dk_2 (dk_at dksX0_year_0 13 rfl rfl)
theorem dX0_year_14 : decode cX0_year 14 = .ok (.ireturn, 1) := dk_172 (dk_at dksX0_year_0 14 rfl rfl)
theorem dX0_year_15 : decode cX0_year 15 = .ok (.aload_n 0, 1) := dk_42 (dk_at dksX0_year_0 15 rfl rfl)
theorem dX0_year_16 : decode cX0_year 16 = .ok (.invokevirtual 223, 3) := dk_182 0 223 (dk_at dksX0_year_0 16 rfl rfl)
theorem dX0_year_19 : decode cX0_year 19 = .ok (.aload_n 0, 1) := dk_42 (dk_at dksX0_year_0 19 rfl rfl)
theorem dX0_year_20 : decode cX0_year 20 = .ok (.getfield 31, 3) := dk_180 0 31 (dk_at dksX0_year_0 20 rfl rfl)
theorem dX0_year_23 : decode cX0_year 23 = .ok (.dup, 1) := dk_89 (dk_at dksX0_year_0 23 rfl rfl)
theorem dX0_year_24 : decode cX0_year 24 = .ok (.getfield 197, 3) := dk_180 0 197 (dk_at dksX0_year_1 0 rfl rfl)
theorem dX0_year_27 : decode cX0_year 27 = .ok (.iconst 1, 1) := dk_4 (dk_at dksX0_year_1 3 rfl rfl)
theorem dX0_year_28 : decode cX0_year 28 = .ok (.iadd, 1) := dk_96 (dk_at dksX0_year_1 4 rfl rfl)
theorem dX0_year_29 : decode cX0_year 29 = .ok (.putfield 197, 3) := dk_181 0 197 (dk_at dksX0_year_1 5 rfl rfl)
theorem dX0_year_32 : decode cX0_year 32 = .ok (.aload_n 0, 1) := dk_42 (dk_at dksX0_year_1 8 rfl rfl)
theorem dX0_year_33 : decode cX0_year 33 = .ok (.getfield 31, 3) := dk_180 0 31 (dk_at dksX0_year_1 9 rfl rfl)
theorem dX0_year_36 : decode cX0_year 36 = .ok (.getfield 197, 3) := dk_180 0 197 (dk_at dksX0_year_1 12 rfl rfl)
theorem dX0_year_39 : decode cX0_year 39 = .ok (.ireturn, 1) := dk_172 (dk_at dksX0_year_1 15 rfl rfl)
abbrev cX0_undo : ByteArray := prog_1_method_26_code
def yX0_undo : MethodName := ⟨RX0, "undo", "()Z"⟩
def dkwX0_undo_1 : List UInt8 := [4, 96, 181, 0, 118, 42, 42, 180, 0, 38, 42, 180, 0, 115, 50, 182, 0, 232, 4, 172]
abbrev dktX0_undo_1 : List UInt8 := dkwX0_undo_1 ++ []
def dkwX0_undo_0 : List UInt8 := [42, 180, 0, 115, 154, 0, 5, 3, 172, 42, 89, 180, 0, 115, 4, 100, 181, 0, 115, 42, 89, 180, 0, 118]
abbrev dktX0_undo_0 : List UInt8 := dkwX0_undo_0 ++ dktX0_undo_1
theorem dksX0_undo_0 : cX0_undo.data.toList.drop 0 = dktX0_undo_0 := by decide +kernel
theorem dksX0_undo_1 : cX0_undo.data.toList.drop 24 = dktX0_undo_1 := dk_seg dksX0_undo_0 24 rfl rfl
theorem dX0_undo_0 : decode cX0_undo 0 = .ok (.aload_n 0, 1) := dk_42 (dk_at dksX0_undo_0 0 rfl rfl)
theorem dX0_undo_1 : decode cX0_undo 1 = .ok (.getfield 115, 3) := dk_180 0 115 (dk_at dksX0_undo_0 1 rfl rfl)
theorem dX0_undo_4 : decode cX0_undo 4 = .ok (.ifCond .ne 5, 3) := dk_154 0 5 (dk_at dksX0_undo_0 4 rfl rfl)
theorem dX0_undo_7 : decode cX0_undo 7 = .ok (.iconst 0, 1) := dk_3 (dk_at dksX0_undo_0 7 rfl rfl)
theorem dX0_undo_8 : decode cX0_undo 8 = .ok (.ireturn, 1) := dk_172 (dk_at dksX0_undo_0 8 rfl rfl)
theorem dX0_undo_9 : decode cX0_undo 9 = .ok (.aload_n 0, 1) := dk_42 (dk_at dksX0_undo_0 9 rfl rfl)
theorem dX0_undo_10 : decode cX0_undo 10 = .ok (.dup, 1) := dk_89 (dk_at dksX0_undo_0 10 rfl rfl)
theorem dX0_undo_11 : decode cX0_undo 11 = .ok (.getfield 115, 3) := dk_180 0 115 (dk_at dksX0_undo_0 11 rfl rfl)
theorem dX0_undo_14 : decode cX0_undo 14 = .ok (.iconst 1, 1) := dk_4 (dk_at dksX0_undo_0 14 rfl rfl)
theorem dX0_undo_15 : decode cX0_undo 15 = .ok (.isub, 1) := dk_100 (dk_at dksX0_undo_0 15 rfl rfl)
theorem dX0_undo_16 : decode cX0_undo 16 = .ok (.putfield 115, 3) := dk_181 0 115 (dk_at dksX0_undo_0 16 rfl rfl)
theorem dX0_undo_19 : decode cX0_undo 19 = .ok (.aload_n 0, 1) := dk_42 (dk_at dksX0_undo_0 19 rfl rfl)
theorem dX0_undo_20 : decode cX0_undo 20 = .ok (.dup, 1) := dk_89 (dk_at dksX0_undo_0 20 rfl rfl)
theorem dX0_undo_21 : decode cX0_undo 21 = .ok (.getfield 118, 3) := dk_180 0 118 (dk_at dksX0_undo_0 21 rfl rfl)
theorem dX0_undo_24 : decode cX0_undo 24 = .ok (.iconst 1, 1) := dk_4 (dk_at dksX0_undo_1 0 rfl rfl)
theorem dX0_undo_25 : decode cX0_undo 25 = .ok (.iadd, 1) := dk_96 (dk_at dksX0_undo_1 1 rfl rfl)
theorem dX0_undo_26 : decode cX0_undo 26 = .ok (.putfield 118, 3) := dk_181 0 118 (dk_at dksX0_undo_1 2 rfl rfl)
theorem dX0_undo_29 : decode cX0_undo 29 = .ok (.aload_n 0, 1) := dk_42 (dk_at dksX0_undo_1 5 rfl rfl)
theorem dX0_undo_30 : decode cX0_undo 30 = .ok (.aload_n 0, 1) := dk_42 (dk_at dksX0_undo_1 6 rfl rfl)
theorem dX0_undo_31 : decode cX0_undo 31 = .ok (.getfield 38, 3) := dk_180 0 38 (dk_at dksX0_undo_1 7 rfl rfl)
theorem dX0_undo_34 : decode cX0_undo 34 = .ok (.aload_n 0, 1) := dk_42 (dk_at dksX0_undo_1 10 rfl rfl)
theorem dX0_undo_35 : decode cX0_undo 35 = .ok (.getfield 115, 3) := dk_180 0 115 (dk_at dksX0_undo_1 11 rfl rfl)
theorem dX0_undo_38 : decode cX0_undo 38 = .ok (.aaload, 1) := dk_50 (dk_at dksX0_undo_1 14 rfl rfl)
theorem dX0_undo_39 : decode cX0_undo 39 = .ok (.invokevirtual 232, 3) := dk_182 0 232 (dk_at dksX0_undo_1 15 rfl rfl)
theorem dX0_undo_42 : decode cX0_undo 42 = .ok (.iconst 1, 1) := dk_4 (dk_at dksX0_undo_1 18 rfl rfl)
theorem dX0_undo_43 : decode cX0_undo 43 = .ok (.ireturn, 1) := dk_172 (dk_at dksX0_undo_1 19 rfl rfl)
abbrev cX0_exchange : ByteArray := prog_1_method_21_code
def yX0_exchange : MethodName := ⟨RX0, "exchange", "(LSealCasts$Chest;)V"⟩
def dkwX0_exchange_1 : List UInt8 := [180, 0, 35, 182, 0, 216, 87, 177]
abbrev dktX0_exchange_1 : List UInt8 := dkwX0_exchange_1 ++ []
def dkwX0_exchange_0 : List UInt8 := [42, 180, 0, 35, 43, 182, 0, 216, 87, 43, 42, 180, 0, 31, 182, 0, 216, 87, 42, 180, 0, 31, 42]
abbrev dktX0_exchange_0 : List UInt8 := dkwX0_exchange_0 ++ dktX0_exchange_1
theorem dksX0_exchange_0 : cX0_exchange.data.toList.drop 0 = dktX0_exchange_0 := by decide +kernel
theorem dksX0_exchange_1 : cX0_exchange.data.toList.drop 23 = dktX0_exchange_1 := dk_seg dksX0_exchange_0 23 rfl rfl
theorem dX0_exchange_0 : decode cX0_exchange 0 = .ok (.aload_n 0, 1) := dk_42 (dk_at dksX0_exchange_0 0 rfl rfl)
theorem dX0_exchange_1 : decode cX0_exchange 1 = .ok (.getfield 35, 3) := dk_180 0 35 (dk_at dksX0_exchange_0 1 rfl rfl)
theorem dX0_exchange_4 : decode cX0_exchange 4 = .ok (.aload_n 1, 1) := dk_43 (dk_at dksX0_exchange_0 4 rfl rfl)
theorem dX0_exchange_5 : decode cX0_exchange 5 = .ok (.invokevirtual 216, 3) := dk_182 0 216 (dk_at dksX0_exchange_0 5 rfl rfl)
theorem dX0_exchange_8 : decode cX0_exchange 8 = .ok (.pop, 1) := dk_87 (dk_at dksX0_exchange_0 8 rfl rfl)
theorem dX0_exchange_9 : decode cX0_exchange 9 = .ok (.aload_n 1, 1) := dk_43 (dk_at dksX0_exchange_0 9 rfl rfl)
theorem dX0_exchange_10 : decode cX0_exchange 10 = .ok (.aload_n 0, 1) := dk_42 (dk_at dksX0_exchange_0 10 rfl rfl)
theorem dX0_exchange_11 : decode cX0_exchange 11 = .ok (.getfield 31, 3) := dk_180 0 31 (dk_at dksX0_exchange_0 11 rfl rfl)
theorem dX0_exchange_14 : decode cX0_exchange 14 = .ok (.invokevirtual 216, 3) := dk_182 0 216 (dk_at dksX0_exchange_0 14 rfl rfl)
theorem dX0_exchange_17 : decode cX0_exchange 17 = .ok (.pop, 1) := dk_87 (dk_at dksX0_exchange_0 17 rfl rfl)
theorem dX0_exchange_18 : decode cX0_exchange 18 = .ok (.aload_n 0, 1) := dk_42 (dk_at dksX0_exchange_0 18 rfl rfl)
theorem dX0_exchange_19 : decode cX0_exchange 19 = .ok (.getfield 31, 3) := dk_180 0 31 (dk_at dksX0_exchange_0 19 rfl rfl)
theorem dX0_exchange_22 : decode cX0_exchange 22 = .ok (.aload_n 0, 1) := dk_42 (dk_at dksX0_exchange_0 22 rfl rfl)
theorem dX0_exchange_23 : decode cX0_exchange 23 = .ok (.getfield 35, 3) := dk_180 0 35 (dk_at dksX0_exchange_1 0 rfl rfl)
theorem dX0_exchange_26 : decode cX0_exchange 26 = .ok (.invokevirtual 216, 3) := dk_182 0 216 (dk_at dksX0_exchange_1 3 rfl rfl)
theorem dX0_exchange_29 : decode cX0_exchange 29 = .ok (.pop, 1) := dk_87 (dk_at dksX0_exchange_1 6 rfl rfl)
theorem dX0_exchange_30 : decode cX0_exchange 30 = .ok (.return_, 1) := dk_177 (dk_at dksX0_exchange_1 7 rfl rfl)
abbrev cX0_redo : ByteArray := prog_1_method_27_code
def yX0_redo : MethodName := ⟨RX0, "redo", "()Z"⟩
def dkwX0_redo_1 : List UInt8 := [180, 0, 115, 4, 96, 181, 0, 115, 42, 89, 180, 0, 118, 4, 100, 181, 0, 118, 4, 172]
abbrev dktX0_redo_1 : List UInt8 := dkwX0_redo_1 ++ []
def dkwX0_redo_0 : List UInt8 := [42, 180, 0, 118, 154, 0, 5, 3, 172, 42, 42, 180, 0, 38, 42, 180, 0, 115, 50, 182, 0, 232, 42, 89]
abbrev dktX0_redo_0 : List UInt8 := dkwX0_redo_0 ++ dktX0_redo_1
theorem dksX0_redo_0 : cX0_redo.data.toList.drop 0 = dktX0_redo_0 := by decide +kernel
theorem dksX0_redo_1 : cX0_redo.data.toList.drop 24 = dktX0_redo_1 := dk_seg dksX0_redo_0 24 rfl rfl
theorem dX0_redo_0 : decode cX0_redo 0 = .ok (.aload_n 0, 1) := dk_42 (dk_at dksX0_redo_0 0 rfl rfl)
theorem dX0_redo_1 : decode cX0_redo 1 = .ok (.getfield 118, 3) := dk_180 0 118 (dk_at dksX0_redo_0 1 rfl rfl)
theorem dX0_redo_4 : decode cX0_redo 4 = .ok (.ifCond .ne 5, 3) := dk_154 0 5 (dk_at dksX0_redo_0 4 rfl rfl)
theorem dX0_redo_7 : decode cX0_redo 7 = .ok (.iconst 0, 1) := dk_3 (dk_at dksX0_redo_0 7 rfl rfl)
theorem dX0_redo_8 : decode cX0_redo 8 = .ok (.ireturn, 1) := dk_172 (dk_at dksX0_redo_0 8 rfl rfl)
theorem dX0_redo_9 : decode cX0_redo 9 = .ok (.aload_n 0, 1) := dk_42 (dk_at dksX0_redo_0 9 rfl rfl)
theorem dX0_redo_10 : decode cX0_redo 10 = .ok (.aload_n 0, 1) := dk_42 (dk_at dksX0_redo_0 10 rfl rfl)
theorem dX0_redo_11 : decode cX0_redo 11 = .ok (.getfield 38, 3) := dk_180 0 38 (dk_at dksX0_redo_0 11 rfl rfl)
theorem dX0_redo_14 : decode cX0_redo 14 = .ok (.aload_n 0, 1) := dk_42 (dk_at dksX0_redo_0 14 rfl rfl)
theorem dX0_redo_15 : decode cX0_redo 15 = .ok (.getfield 115, 3) := dk_180 0 115 (dk_at dksX0_redo_0 15 rfl rfl)
theorem dX0_redo_18 : decode cX0_redo 18 = .ok (.aaload, 1) := dk_50 (dk_at dksX0_redo_0 18 rfl rfl)
theorem dX0_redo_19 : decode cX0_redo 19 = .ok (.invokevirtual 232, 3) := dk_182 0 232 (dk_at dksX0_redo_0 19 rfl rfl)
theorem dX0_redo_22 : decode cX0_redo 22 = .ok (.aload_n 0, 1) := dk_42 (dk_at dksX0_redo_0 22 rfl rfl)
theorem dX0_redo_23 : decode cX0_redo 23 = .ok (.dup, 1) := dk_89 (dk_at dksX0_redo_0 23 rfl rfl)
theorem dX0_redo_24 : decode cX0_redo 24 = .ok (.getfield 115, 3) := dk_180 0 115 (dk_at dksX0_redo_1 0 rfl rfl)
theorem dX0_redo_27 : decode cX0_redo 27 = .ok (.iconst 1, 1) := dk_4 (dk_at dksX0_redo_1 3 rfl rfl)
theorem dX0_redo_28 : decode cX0_redo 28 = .ok (.iadd, 1) := dk_96 (dk_at dksX0_redo_1 4 rfl rfl)
theorem dX0_redo_29 : decode cX0_redo 29 = .ok (.putfield 115, 3) := dk_181 0 115 (dk_at dksX0_redo_1 5 rfl rfl)
theorem dX0_redo_32 : decode cX0_redo 32 = .ok (.aload_n 0, 1) := dk_42 (dk_at dksX0_redo_1 8 rfl rfl)
theorem dX0_redo_33 : decode cX0_redo 33 = .ok (.dup, 1) := dk_89 (dk_at dksX0_redo_1 9 rfl rfl)
theorem dX0_redo_34 : decode cX0_redo 34 = .ok (.getfield 118, 3) := dk_180 0 118 (dk_at dksX0_redo_1 10 rfl rfl)
theorem dX0_redo_37 : decode cX0_redo 37 = .ok (.iconst 1, 1) := dk_4 (dk_at dksX0_redo_1 13 rfl rfl)
theorem dX0_redo_38 : decode cX0_redo 38 = .ok (.isub, 1) := dk_100 (dk_at dksX0_redo_1 14 rfl rfl)
theorem dX0_redo_39 : decode cX0_redo 39 = .ok (.putfield 118, 3) := dk_181 0 118 (dk_at dksX0_redo_1 15 rfl rfl)
theorem dX0_redo_42 : decode cX0_redo 42 = .ok (.iconst 1, 1) := dk_4 (dk_at dksX0_redo_1 18 rfl rfl)
theorem dX0_redo_43 : decode cX0_redo 43 = .ok (.ireturn, 1) := dk_172 (dk_at dksX0_redo_1 19 rfl rfl)
abbrev cX0_whose : ByteArray := prog_1_method_28_code
def yX0_whose : MethodName := ⟨RX0, "whose", "(III)I"⟩
def dkwX0_whose_3 : List UInt8 := [54, 4, 132, 5, 1, 167, 255, 211, 21, 4, 172]
abbrev dktX0_whose_3 : List UInt8 := dkwX0_whose_3 ++ []
def dkwX0_whose_2 : List UInt8 := [180, 0, 164, 27, 46, 21, 5, 28, 182, 0, 236, 29, 160, 0, 10, 4, 21, 5, 120, 167, 0, 4, 3, 128]
abbrev dktX0_whose_2 : List UInt8 := dkwX0_whose_2 ++ dktX0_whose_3
def dkwX0_whose_1 : List UInt8 := [172, 3, 54, 4, 3, 54, 5, 21, 5, 42, 182, 0, 138, 162, 0, 42, 21, 4, 42, 42, 180, 0, 31]
abbrev dktX0_whose_1 : List UInt8 := dkwX0_whose_1 ++ dktX0_whose_2
def dkwX0_whose_0 : List UInt8 := [42, 27, 182, 0, 160, 153, 0, 18, 28, 184, 0, 207, 153, 0, 11, 42, 29, 182, 0, 192, 154, 0, 5, 2]
abbrev dktX0_whose_0 : List UInt8 := dkwX0_whose_0 ++ dktX0_whose_1
theorem dksX0_whose_0 : cX0_whose.data.toList.drop 0 = dktX0_whose_0 := by decide +kernel
theorem dksX0_whose_1 : cX0_whose.data.toList.drop 24 = dktX0_whose_1 := dk_seg dksX0_whose_0 24 rfl rfl
theorem dksX0_whose_2 : cX0_whose.data.toList.drop 47 = dktX0_whose_2 := dk_seg dksX0_whose_1 23 rfl rfl
theorem dksX0_whose_3 : cX0_whose.data.toList.drop 71 = dktX0_whose_3 := dk_seg dksX0_whose_2 24 rfl rfl
theorem dX0_whose_0 : decode cX0_whose 0 = .ok (.aload_n 0, 1) := dk_42 (dk_at dksX0_whose_0 0 rfl rfl)
theorem dX0_whose_1 : decode cX0_whose 1 = .ok (.iload_n 1, 1) := dk_27 (dk_at dksX0_whose_0 1 rfl rfl)
theorem dX0_whose_2 : decode cX0_whose 2 = .ok (.invokevirtual 160, 3) := dk_182 0 160 (dk_at dksX0_whose_0 2 rfl rfl)
theorem dX0_whose_5 : decode cX0_whose 5 = .ok (.ifCond .eq 18, 3) := dk_153 0 18 (dk_at dksX0_whose_0 5 rfl rfl)
theorem dX0_whose_8 : decode cX0_whose 8 = .ok (.iload_n 2, 1) := dk_28 (dk_at dksX0_whose_0 8 rfl rfl)
theorem dX0_whose_9 : decode cX0_whose 9 = .ok (.invokestatic 207, 3) := dk_184 0 207 (dk_at dksX0_whose_0 9 rfl rfl)
theorem dX0_whose_12 : decode cX0_whose 12 = .ok (.ifCond .eq 11, 3) := dk_153 0 11 (dk_at dksX0_whose_0 12 rfl rfl)
theorem dX0_whose_15 : decode cX0_whose 15 = .ok (.aload_n 0, 1) := dk_42 (dk_at dksX0_whose_0 15 rfl rfl)
theorem dX0_whose_16 : decode cX0_whose 16 = .ok (.iload_n 3, 1) := dk_29 (dk_at dksX0_whose_0 16 rfl rfl)
theorem dX0_whose_17 : decode cX0_whose 17 = .ok (.invokevirtual 192, 3) := dk_182 0 192 (dk_at dksX0_whose_0 17 rfl rfl)
theorem dX0_whose_20 : decode cX0_whose 20 = .ok (.ifCond .ne 5, 3) := dk_154 0 5 (dk_at dksX0_whose_0 20 rfl rfl)
theorem dX0_whose_23 : decode cX0_whose 23 = .ok (.iconst (-1), 1) := dk_2 (dk_at dksX0_whose_0 23 rfl rfl)
theorem dX0_whose_24 : decode cX0_whose 24 = .ok (.ireturn, 1) := dk_172 (dk_at dksX0_whose_1 0 rfl rfl)
theorem dX0_whose_25 : decode cX0_whose 25 = .ok (.iconst 0, 1) := dk_3 (dk_at dksX0_whose_1 1 rfl rfl)
theorem dX0_whose_26 : decode cX0_whose 26 = .ok (.istore 4, 2) := dk_54 4 (dk_at dksX0_whose_1 2 rfl rfl)
theorem dX0_whose_28 : decode cX0_whose 28 = .ok (.iconst 0, 1) := dk_3 (dk_at dksX0_whose_1 4 rfl rfl)
theorem dX0_whose_29 : decode cX0_whose 29 = .ok (.istore 5, 2) := dk_54 5 (dk_at dksX0_whose_1 5 rfl rfl)
theorem dX0_whose_31 : decode cX0_whose 31 = .ok (.iload 5, 2) := dk_21 5 (dk_at dksX0_whose_1 7 rfl rfl)
theorem dX0_whose_33 : decode cX0_whose 33 = .ok (.aload_n 0, 1) := dk_42 (dk_at dksX0_whose_1 9 rfl rfl)
theorem dX0_whose_34 : decode cX0_whose 34 = .ok (.invokevirtual 138, 3) := dk_182 0 138 (dk_at dksX0_whose_1 10 rfl rfl)
theorem dX0_whose_37 : decode cX0_whose 37 = .ok (.if_icmp .ge 42, 3) := dk_162 0 42 (dk_at dksX0_whose_1 13 rfl rfl)
theorem dX0_whose_40 : decode cX0_whose 40 = .ok (.iload 4, 2) := dk_21 4 (dk_at dksX0_whose_1 16 rfl rfl)
theorem dX0_whose_42 : decode cX0_whose 42 = .ok (.aload_n 0, 1) := dk_42 (dk_at dksX0_whose_1 18 rfl rfl)
theorem dX0_whose_43 : decode cX0_whose 43 = .ok (.aload_n 0, 1) := dk_42 (dk_at dksX0_whose_1 19 rfl rfl)
theorem dX0_whose_44 : decode cX0_whose 44 = .ok (.getfield 31, 3) := dk_180 0 31 (dk_at dksX0_whose_1 20 rfl rfl)
theorem dX0_whose_47 : decode cX0_whose 47 = .ok (.getfield 164, 3) := dk_180 0 164 (dk_at dksX0_whose_2 0 rfl rfl)
theorem dX0_whose_50 : decode cX0_whose 50 = .ok (.iload_n 1, 1) := dk_27 (dk_at dksX0_whose_2 3 rfl rfl)
theorem dX0_whose_51 : decode cX0_whose 51 = .ok (.iaload, 1) := dk_46 (dk_at dksX0_whose_2 4 rfl rfl)
theorem dX0_whose_52 : decode cX0_whose 52 = .ok (.iload 5, 2) := dk_21 5 (dk_at dksX0_whose_2 5 rfl rfl)
theorem dX0_whose_54 : decode cX0_whose 54 = .ok (.iload_n 2, 1) := dk_28 (dk_at dksX0_whose_2 7 rfl rfl)
theorem dX0_whose_55 : decode cX0_whose 55 = .ok (.invokevirtual 236, 3) := dk_182 0 236 (dk_at dksX0_whose_2 8 rfl rfl)
theorem dX0_whose_58 : decode cX0_whose 58 = .ok (.iload_n 3, 1) := dk_29 (dk_at dksX0_whose_2 11 rfl rfl)
theorem dX0_whose_59 : decode cX0_whose 59 = .ok (.if_icmp .ne 10, 3) := dk_160 0 10 (dk_at dksX0_whose_2 12 rfl rfl)
theorem dX0_whose_62 : decode cX0_whose 62 = .ok (.iconst 1, 1) := dk_4 (dk_at dksX0_whose_2 15 rfl rfl)
theorem dX0_whose_63 : decode cX0_whose 63 = .ok (.iload 5, 2) := dk_21 5 (dk_at dksX0_whose_2 16 rfl rfl)
theorem dX0_whose_65 : decode cX0_whose 65 = .ok (.ishl, 1) := dk_120 (dk_at dksX0_whose_2 18 rfl rfl)
theorem dX0_whose_66 : decode cX0_whose 66 = .ok (.goto 4, 3) := dk_167 0 4 (dk_at dksX0_whose_2 19 rfl rfl)
theorem dX0_whose_69 : decode cX0_whose 69 = .ok (.iconst 0, 1) := dk_3 (dk_at dksX0_whose_2 22 rfl rfl)
theorem dX0_whose_70 : decode cX0_whose 70 = .ok (.ior, 1) := dk_128 (dk_at dksX0_whose_2 23 rfl rfl)
theorem dX0_whose_71 : decode cX0_whose 71 = .ok (.istore 4, 2) := dk_54 4 (dk_at dksX0_whose_3 0 rfl rfl)
theorem dX0_whose_73 : decode cX0_whose 73 = .ok (.iinc 5 1, 3) := dk_132 5 1 (dk_at dksX0_whose_3 2 rfl rfl)
theorem dX0_whose_76 : decode cX0_whose 76 = .ok (.goto (-45), 3) := dk_167 255 211 (dk_at dksX0_whose_3 5 rfl rfl)
theorem dX0_whose_79 : decode cX0_whose 79 = .ok (.iload 4, 2) := dk_21 4 (dk_at dksX0_whose_3 8 rfl rfl)
theorem dX0_whose_81 : decode cX0_whose 81 = .ok (.ireturn, 1) := dk_172 (dk_at dksX0_whose_3 10 rfl rfl)
abbrev cX0_castOf : ByteArray := prog_1_method_18_code
def yX0_castOf : MethodName := ⟨RX0, "castOf", "(III)I"⟩
def dkwX0_castOf_0 : List UInt8 := [42, 180, 0, 20, 27, 28, 29, 42, 180, 0, 31, 180, 0, 197, 3, 182, 0, 200, 172]
abbrev dktX0_castOf_0 : List UInt8 := dkwX0_castOf_0 ++ []
theorem dksX0_castOf_0 : cX0_castOf.data.toList.drop 0 = dktX0_castOf_0 := by decide +kernel
theorem dX0_castOf_0 : decode cX0_castOf 0 = .ok (.aload_n 0, 1) := dk_42 (dk_at dksX0_castOf_0 0 rfl rfl)
theorem dX0_castOf_1 : decode cX0_castOf 1 = .ok (.getfield 20, 3) := dk_180 0 20 (dk_at dksX0_castOf_0 1 rfl rfl)
theorem dX0_castOf_4 : decode cX0_castOf 4 = .ok (.iload_n 1, 1) := dk_27 (dk_at dksX0_castOf_0 4 rfl rfl)
theorem dX0_castOf_5 : decode cX0_castOf 5 = .ok (.iload_n 2, 1) := dk_28 (dk_at dksX0_castOf_0 5 rfl rfl)
theorem dX0_castOf_6 : decode cX0_castOf 6 = .ok (.iload_n 3, 1) := dk_29 (dk_at dksX0_castOf_0 6 rfl rfl)
theorem dX0_castOf_7 : decode cX0_castOf 7 = .ok (.aload_n 0, 1) := dk_42 (dk_at dksX0_castOf_0 7 rfl rfl)
theorem dX0_castOf_8 : decode cX0_castOf 8 = .ok (.getfield 31, 3) := dk_180 0 31 (dk_at dksX0_castOf_0 8 rfl rfl)
theorem dX0_castOf_11 : decode cX0_castOf 11 = .ok (.getfield 197, 3) := dk_180 0 197 (dk_at dksX0_castOf_0 11 rfl rfl)
theorem dX0_castOf_14 : decode cX0_castOf 14 = .ok (.iconst 0, 1) := dk_3 (dk_at dksX0_castOf_0 14 rfl rfl)
theorem dX0_castOf_15 : decode cX0_castOf 15 = .ok (.invokevirtual 200, 3) := dk_182 0 200 (dk_at dksX0_castOf_0 15 rfl rfl)
theorem dX0_castOf_18 : decode cX0_castOf 18 = .ok (.ireturn, 1) := dk_172 (dk_at dksX0_castOf_0 18 rfl rfl)
abbrev cX0_made : ByteArray := prog_1_method_29_code
def yX0_made : MethodName := ⟨RX0, "made", "(II)I"⟩
def dkwX0_made_4 : List UInt8 := [167, 255, 189, 29, 172]
abbrev dktX0_made_4 : List UInt8 := dkwX0_made_4 ++ []
def dkwX0_made_3 : List UInt8 := [2, 130, 126, 184, 0, 240, 28, 163, 0, 10, 4, 21, 4, 120, 167, 0, 4, 3, 128, 62, 132, 4, 1]
abbrev dktX0_made_3 : List UInt8 := dkwX0_made_3 ++ dktX0_made_4
def dkwX0_made_2 : List UInt8 := [180, 0, 164, 21, 4, 46, 182, 0, 195, 54, 5, 29, 27, 21, 5, 2, 130, 126, 154, 0, 23, 21, 5, 27]
abbrev dktX0_made_2 : List UInt8 := dkwX0_made_2 ++ dktX0_made_3
def dkwX0_made_1 : List UInt8 := [54, 4, 21, 4, 42, 180, 0, 31, 180, 0, 154, 162, 0, 61, 42, 180, 0, 20, 42, 180, 0, 31]
abbrev dktX0_made_1 : List UInt8 := dkwX0_made_1 ++ dktX0_made_2
def dkwX0_made_0 : List UInt8 := [42, 27, 182, 0, 192, 153, 0, 13, 28, 3, 16, 12, 184, 0, 150, 154, 0, 5, 2, 172, 3, 62, 3]
abbrev dktX0_made_0 : List UInt8 := dkwX0_made_0 ++ dktX0_made_1
theorem dksX0_made_0 : cX0_made.data.toList.drop 0 = dktX0_made_0 := by decide +kernel
theorem dksX0_made_1 : cX0_made.data.toList.drop 23 = dktX0_made_1 := dk_seg dksX0_made_0 23 rfl rfl
theorem dksX0_made_2 : cX0_made.data.toList.drop 45 = dktX0_made_2 := dk_seg dksX0_made_1 22 rfl rfl
theorem dksX0_made_3 : cX0_made.data.toList.drop 69 = dktX0_made_3 := dk_seg dksX0_made_2 24 rfl rfl
theorem dksX0_made_4 : cX0_made.data.toList.drop 92 = dktX0_made_4 := dk_seg dksX0_made_3 23 rfl rfl
theorem dX0_made_0 : decode cX0_made 0 = .ok (.aload_n 0, 1) := dk_42 (dk_at dksX0_made_0 0 rfl rfl)
theorem dX0_made_1 : decode cX0_made 1 = .ok (.iload_n 1, 1) := dk_27 (dk_at dksX0_made_0 1 rfl rfl)
theorem dX0_made_2 : decode cX0_made 2 = .ok (.invokevirtual 192, 3) := dk_182 0 192 (dk_at dksX0_made_0 2 rfl rfl)
theorem dX0_made_5 : decode cX0_made 5 = .ok (.ifCond .eq 13, 3) := dk_153 0 13 (dk_at dksX0_made_0 5 rfl rfl)
theorem dX0_made_8 : decode cX0_made 8 = .ok (.iload_n 2, 1) := dk_28 (dk_at dksX0_made_0 8 rfl rfl)
theorem dX0_made_9 : decode cX0_made 9 = .ok (.iconst 0, 1) := dk_3 (dk_at dksX0_made_0 9 rfl rfl)
theorem dX0_made_10 : decode cX0_made 10 = .ok (.bipush 12, 2) := dk_16 12 (dk_at dksX0_made_0 10 rfl rfl)
theorem dX0_made_12 : decode cX0_made 12 = .ok (.invokestatic 150, 3) := dk_184 0 150 (dk_at dksX0_made_0 12 rfl rfl)
theorem dX0_made_15 : decode cX0_made 15 = .ok (.ifCond .ne 5, 3) := dk_154 0 5 (dk_at dksX0_made_0 15 rfl rfl)
theorem dX0_made_18 : decode cX0_made 18 = .ok (.iconst (-1), 1) := dk_2 (dk_at dksX0_made_0 18 rfl rfl)
theorem dX0_made_19 : decode cX0_made 19 = .ok (.ireturn, 1) := dk_172 (dk_at dksX0_made_0 19 rfl rfl)
theorem dX0_made_20 : decode cX0_made 20 = .ok (.iconst 0, 1) := dk_3 (dk_at dksX0_made_0 20 rfl rfl)
theorem dX0_made_21 : decode cX0_made 21 = .ok (.istore_n 3, 1) := dk_62 (dk_at dksX0_made_0 21 rfl rfl)
theorem dX0_made_22 : decode cX0_made 22 = .ok (.iconst 0, 1) := dk_3 (dk_at dksX0_made_0 22 rfl rfl)
theorem dX0_made_23 : decode cX0_made 23 = .ok (.istore 4, 2) := dk_54 4 (dk_at dksX0_made_1 0 rfl rfl)
theorem dX0_made_25 : decode cX0_made 25 = .ok (.iload 4, 2) := dk_21 4 (dk_at dksX0_made_1 2 rfl rfl)
theorem dX0_made_27 : decode cX0_made 27 = .ok (.aload_n 0, 1) := dk_42 (dk_at dksX0_made_1 4 rfl rfl)
theorem dX0_made_28 : decode cX0_made 28 = .ok (.getfield 31, 3) := dk_180 0 31 (dk_at dksX0_made_1 5 rfl rfl)
theorem dX0_made_31 : decode cX0_made 31 = .ok (.getfield 154, 3) := dk_180 0 154 (dk_at dksX0_made_1 8 rfl rfl)
theorem dX0_made_34 : decode cX0_made 34 = .ok (.if_icmp .ge 61, 3) := dk_162 0 61 (dk_at dksX0_made_1 11 rfl rfl)
theorem dX0_made_37 : decode cX0_made 37 = .ok (.aload_n 0, 1) := dk_42 (dk_at dksX0_made_1 14 rfl rfl)
theorem dX0_made_38 : decode cX0_made 38 = .ok (.getfield 20, 3) := dk_180 0 20 (dk_at dksX0_made_1 15 rfl rfl)
theorem dX0_made_41 : decode cX0_made 41 = .ok (.aload_n 0, 1) := dk_42 (dk_at dksX0_made_1 18 rfl rfl)
theorem dX0_made_42 : decode cX0_made 42 = .ok (.getfield 31, 3) := dk_180 0 31 (dk_at dksX0_made_1 19 rfl rfl)
theorem dX0_made_45 : decode cX0_made 45 = .ok (.getfield 164, 3) := dk_180 0 164 (dk_at dksX0_made_2 0 rfl rfl)
theorem dX0_made_48 : decode cX0_made 48 = .ok (.iload 4, 2) := dk_21 4 (dk_at dksX0_made_2 3 rfl rfl)
theorem dX0_made_50 : decode cX0_made 50 = .ok (.iaload, 1) := dk_46 (dk_at dksX0_made_2 5 rfl rfl)
theorem dX0_made_51 : decode cX0_made 51 = .ok (.invokevirtual 195, 3) := dk_182 0 195 (dk_at dksX0_made_2 6 rfl rfl)
theorem dX0_made_54 : decode cX0_made 54 = .ok (.istore 5, 2) := dk_54 5 (dk_at dksX0_made_2 9 rfl rfl)
theorem dX0_made_56 : decode cX0_made 56 = .ok (.iload_n 3, 1) := dk_29 (dk_at dksX0_made_2 11 rfl rfl)
theorem dX0_made_57 : decode cX0_made 57 = .ok (.iload_n 1, 1) := dk_27 (dk_at dksX0_made_2 12 rfl rfl)
theorem dX0_made_58 : decode cX0_made 58 = .ok (.iload 5, 2) := dk_21 5 (dk_at dksX0_made_2 13 rfl rfl)
theorem dX0_made_60 : decode cX0_made 60 = .ok (.iconst (-1), 1) := dk_2 (dk_at dksX0_made_2 15 rfl rfl)
theorem dX0_made_61 : decode cX0_made 61 = .ok (.ixor, 1) := dk_130 (dk_at dksX0_made_2 16 rfl rfl)
theorem dX0_made_62 : decode cX0_made 62 = .ok (.iand, 1) := dk_126 (dk_at dksX0_made_2 17 rfl rfl)
theorem dX0_made_63 : decode cX0_made 63 = .ok (.ifCond .ne 23, 3) := dk_154 0 23 (dk_at dksX0_made_2 18 rfl rfl)
theorem dX0_made_66 : decode cX0_made 66 = .ok (.iload 5, 2) := dk_21 5 (dk_at dksX0_made_2 21 rfl rfl)
theorem dX0_made_68 : decode cX0_made 68 = .ok (.iload_n 1, 1) := dk_27 (dk_at dksX0_made_2 23 rfl rfl)
theorem dX0_made_69 : decode cX0_made 69 = .ok (.iconst (-1), 1) := dk_2 (dk_at dksX0_made_3 0 rfl rfl)
theorem dX0_made_70 : decode cX0_made 70 = .ok (.ixor, 1) := dk_130 (dk_at dksX0_made_3 1 rfl rfl)
theorem dX0_made_71 : decode cX0_made 71 = .ok (.iand, 1) := dk_126 (dk_at dksX0_made_3 2 rfl rfl)
theorem dX0_made_72 : decode cX0_made 72 = .ok (.invokestatic 240, 3) := dk_184 0 240 (dk_at dksX0_made_3 3 rfl rfl)
theorem dX0_made_75 : decode cX0_made 75 = .ok (.iload_n 2, 1) := dk_28 (dk_at dksX0_made_3 6 rfl rfl)
theorem dX0_made_76 : decode cX0_made 76 = .ok (.if_icmp .gt 10, 3) := dk_163 0 10 (dk_at dksX0_made_3 7 rfl rfl)
theorem dX0_made_79 : decode cX0_made 79 = .ok (.iconst 1, 1) := dk_4 (dk_at dksX0_made_3 10 rfl rfl)
theorem dX0_made_80 : decode cX0_made 80 = .ok (.iload 4, 2) := dk_21 4 (dk_at dksX0_made_3 11 rfl rfl)
theorem dX0_made_82 : decode cX0_made 82 = .ok (.ishl, 1) := dk_120 (dk_at dksX0_made_3 13 rfl rfl)
theorem dX0_made_83 : decode cX0_made 83 = .ok (.goto 4, 3) := dk_167 0 4 (dk_at dksX0_made_3 14 rfl rfl)
theorem dX0_made_86 : decode cX0_made 86 = .ok (.iconst 0, 1) := dk_3 (dk_at dksX0_made_3 17 rfl rfl)
theorem dX0_made_87 : decode cX0_made 87 = .ok (.ior, 1) := dk_128 (dk_at dksX0_made_3 18 rfl rfl)
theorem dX0_made_88 : decode cX0_made 88 = .ok (.istore_n 3, 1) := dk_62 (dk_at dksX0_made_3 19 rfl rfl)
theorem dX0_made_89 : decode cX0_made 89 = .ok (.iinc 4 1, 3) := dk_132 4 1 (dk_at dksX0_made_3 20 rfl rfl)
theorem dX0_made_92 : decode cX0_made 92 = .ok (.goto (-67), 3) := dk_167 255 189 (dk_at dksX0_made_4 0 rfl rfl)
theorem dX0_made_95 : decode cX0_made 95 = .ok (.iload_n 3, 1) := dk_29 (dk_at dksX0_made_4 3 rfl rfl)
theorem dX0_made_96 : decode cX0_made 96 = .ok (.ireturn, 1) := dk_172 (dk_at dksX0_made_4 4 rfl rfl)
abbrev cX0_apart : ByteArray := prog_1_method_30_code
def yX0_apart : MethodName := ⟨RX0, "apart", "(IIZ)I"⟩
def dkwX0_apart_2 : List UInt8 := [42, 180, 0, 31, 180, 0, 164, 28, 46, 130, 184, 0, 240, 167, 0, 4, 2, 172]
abbrev dktX0_apart_2 : List UInt8 := dkwX0_apart_2 ++ []
def dkwX0_apart_1 : List UInt8 := [46, 29, 153, 0, 22, 42, 180, 0, 20, 42, 180, 0, 31, 180, 0, 164, 28, 46, 182, 0, 195, 167, 0, 12]
abbrev dktX0_apart_1 : List UInt8 := dkwX0_apart_1 ++ dktX0_apart_2
def dkwX0_apart_0 : List UInt8 := [42, 27, 182, 0, 160, 153, 0, 59, 42, 28, 182, 0, 160, 153, 0, 51, 42, 180, 0, 31, 180, 0, 164, 27]
abbrev dktX0_apart_0 : List UInt8 := dkwX0_apart_0 ++ dktX0_apart_1
theorem dksX0_apart_0 : cX0_apart.data.toList.drop 0 = dktX0_apart_0 := by decide +kernel
theorem dksX0_apart_1 : cX0_apart.data.toList.drop 24 = dktX0_apart_1 := dk_seg dksX0_apart_0 24 rfl rfl
theorem dksX0_apart_2 : cX0_apart.data.toList.drop 48 = dktX0_apart_2 := dk_seg dksX0_apart_1 24 rfl rfl
theorem dX0_apart_0 : decode cX0_apart 0 = .ok (.aload_n 0, 1) := dk_42 (dk_at dksX0_apart_0 0 rfl rfl)
theorem dX0_apart_1 : decode cX0_apart 1 = .ok (.iload_n 1, 1) := dk_27 (dk_at dksX0_apart_0 1 rfl rfl)
theorem dX0_apart_2 : decode cX0_apart 2 = .ok (.invokevirtual 160, 3) := dk_182 0 160 (dk_at dksX0_apart_0 2 rfl rfl)
theorem dX0_apart_5 : decode cX0_apart 5 = .ok (.ifCond .eq 59, 3) := dk_153 0 59 (dk_at dksX0_apart_0 5 rfl rfl)
theorem dX0_apart_8 : decode cX0_apart 8 = .ok (.aload_n 0, 1) := dk_42 (dk_at dksX0_apart_0 8 rfl rfl)
theorem dX0_apart_9 : decode cX0_apart 9 = .ok (.iload_n 2, 1) := dk_28 (dk_at dksX0_apart_0 9 rfl rfl)
theorem dX0_apart_10 : decode cX0_apart 10 = .ok (.invokevirtual 160, 3) := dk_182 0 160 (dk_at dksX0_apart_0 10 rfl rfl)
theorem dX0_apart_13 : decode cX0_apart 13 = .ok (.ifCond .eq 51, 3) := dk_153 0 51 (dk_at dksX0_apart_0 13 rfl rfl)
theorem dX0_apart_16 : decode cX0_apart 16 = .ok (.aload_n 0, 1) := dk_42 (dk_at dksX0_apart_0 16 rfl rfl)
theorem dX0_apart_17 : decode cX0_apart 17 = .ok (.getfield 31, 3) := dk_180 0 31 (dk_at dksX0_apart_0 17 rfl rfl)
theorem dX0_apart_20 : decode cX0_apart 20 = .ok (.getfield 164, 3) := dk_180 0 164 (dk_at dksX0_apart_0 20 rfl rfl)
theorem dX0_apart_23 : decode cX0_apart 23 = .ok (.iload_n 1, 1) := dk_27 (dk_at dksX0_apart_0 23 rfl rfl)
theorem dX0_apart_24 : decode cX0_apart 24 = .ok (.iaload, 1) := dk_46 (dk_at dksX0_apart_1 0 rfl rfl)
theorem dX0_apart_25 : decode cX0_apart 25 = .ok (.iload_n 3, 1) := dk_29 (dk_at dksX0_apart_1 1 rfl rfl)
theorem dX0_apart_26 : decode cX0_apart 26 = .ok (.ifCond .eq 22, 3) := dk_153 0 22 (dk_at dksX0_apart_1 2 rfl rfl)
theorem dX0_apart_29 : decode cX0_apart 29 = .ok (.aload_n 0, 1) := dk_42 (dk_at dksX0_apart_1 5 rfl rfl)
theorem dX0_apart_30 : decode cX0_apart 30 = .ok (.getfield 20, 3) := dk_180 0 20 (dk_at dksX0_apart_1 6 rfl rfl)
theorem dX0_apart_33 : decode cX0_apart 33 = .ok (.aload_n 0, 1) := dk_42 (dk_at dksX0_apart_1 9 rfl rfl)
theorem dX0_apart_34 : decode cX0_apart 34 = .ok (.getfield 31, 3) := dk_180 0 31 (dk_at dksX0_apart_1 10 rfl rfl)
theorem dX0_apart_37 : decode cX0_apart 37 = .ok (.getfield 164, 3) := dk_180 0 164 (dk_at dksX0_apart_1 13 rfl rfl)
theorem dX0_apart_40 : decode cX0_apart 40 = .ok (.iload_n 2, 1) := dk_28 (dk_at dksX0_apart_1 16 rfl rfl)
theorem dX0_apart_41 : decode cX0_apart 41 = .ok (.iaload, 1) := dk_46 (dk_at dksX0_apart_1 17 rfl rfl)
theorem dX0_apart_42 : decode cX0_apart 42 = .ok (.invokevirtual 195, 3) := dk_182 0 195 (dk_at dksX0_apart_1 18 rfl rfl)
theorem dX0_apart_45 : decode cX0_apart 45 = .ok (.goto 12, 3) := dk_167 0 12 (dk_at dksX0_apart_1 21 rfl rfl)
theorem dX0_apart_48 : decode cX0_apart 48 = .ok (.aload_n 0, 1) := dk_42 (dk_at dksX0_apart_2 0 rfl rfl)
theorem dX0_apart_49 : decode cX0_apart 49 = .ok (.getfield 31, 3) := dk_180 0 31 (dk_at dksX0_apart_2 1 rfl rfl)
theorem dX0_apart_52 : decode cX0_apart 52 = .ok (.getfield 164, 3) := dk_180 0 164 (dk_at dksX0_apart_2 4 rfl rfl)
theorem dX0_apart_55 : decode cX0_apart 55 = .ok (.iload_n 2, 1) := dk_28 (dk_at dksX0_apart_2 7 rfl rfl)
theorem dX0_apart_56 : decode cX0_apart 56 = .ok (.iaload, 1) := dk_46 (dk_at dksX0_apart_2 8 rfl rfl)
theorem dX0_apart_57 : decode cX0_apart 57 = .ok (.ixor, 1) := dk_130 (dk_at dksX0_apart_2 9 rfl rfl)
theorem dX0_apart_58 : decode cX0_apart 58 = .ok (.invokestatic 240, 3) := dk_184 0 240 (dk_at dksX0_apart_2 10 rfl rfl)
theorem dX0_apart_61 : decode cX0_apart 61 = .ok (.goto 4, 3) := dk_167 0 4 (dk_at dksX0_apart_2 13 rfl rfl)
theorem dX0_apart_64 : decode cX0_apart 64 = .ok (.iconst (-1), 1) := dk_2 (dk_at dksX0_apart_2 16 rfl rfl)
theorem dX0_apart_65 : decode cX0_apart 65 = .ok (.ireturn, 1) := dk_172 (dk_at dksX0_apart_2 17 rfl rfl)
abbrev cX0_heats : ByteArray := prog_1_method_31_code
def yX0_heats : MethodName := ⟨RX0, "heats", "(III)I"⟩
def dkwX0_heats_3 : List UInt8 := [54, 4, 132, 5, 1, 167, 255, 213, 21, 4, 172]
abbrev dktX0_heats_3 : List UInt8 := dkwX0_heats_3 ++ []
def dkwX0_heats_2 : List UInt8 := [180, 0, 164, 27, 46, 28, 21, 5, 182, 0, 236, 29, 160, 0, 10, 4, 21, 5, 120, 167, 0, 4, 3, 128]
abbrev dktX0_heats_2 : List UInt8 := dkwX0_heats_2 ++ dktX0_heats_3
def dkwX0_heats_1 : List UInt8 := [2, 172, 3, 54, 4, 3, 54, 5, 21, 5, 16, 9, 163, 0, 42, 21, 4, 42, 42, 180, 0, 31]
abbrev dktX0_heats_1 : List UInt8 := dkwX0_heats_1 ++ dktX0_heats_2
def dkwX0_heats_0 : List UInt8 := [42, 27, 182, 0, 160, 153, 0, 19, 42, 28, 182, 0, 204, 153, 0, 11, 42, 29, 182, 0, 192, 154, 0, 5]
abbrev dktX0_heats_0 : List UInt8 := dkwX0_heats_0 ++ dktX0_heats_1
theorem dksX0_heats_0 : cX0_heats.data.toList.drop 0 = dktX0_heats_0 := by decide +kernel
theorem dksX0_heats_1 : cX0_heats.data.toList.drop 24 = dktX0_heats_1 := dk_seg dksX0_heats_0 24 rfl rfl
theorem dksX0_heats_2 : cX0_heats.data.toList.drop 46 = dktX0_heats_2 := dk_seg dksX0_heats_1 22 rfl rfl
theorem dksX0_heats_3 : cX0_heats.data.toList.drop 70 = dktX0_heats_3 := dk_seg dksX0_heats_2 24 rfl rfl
theorem dX0_heats_0 : decode cX0_heats 0 = .ok (.aload_n 0, 1) := dk_42 (dk_at dksX0_heats_0 0 rfl rfl)
theorem dX0_heats_1 : decode cX0_heats 1 = .ok (.iload_n 1, 1) := dk_27 (dk_at dksX0_heats_0 1 rfl rfl)
theorem dX0_heats_2 : decode cX0_heats 2 = .ok (.invokevirtual 160, 3) := dk_182 0 160 (dk_at dksX0_heats_0 2 rfl rfl)
theorem dX0_heats_5 : decode cX0_heats 5 = .ok (.ifCond .eq 19, 3) := dk_153 0 19 (dk_at dksX0_heats_0 5 rfl rfl)
theorem dX0_heats_8 : decode cX0_heats 8 = .ok (.aload_n 0, 1) := dk_42 (dk_at dksX0_heats_0 8 rfl rfl)
theorem dX0_heats_9 : decode cX0_heats 9 = .ok (.iload_n 2, 1) := dk_28 (dk_at dksX0_heats_0 9 rfl rfl)
theorem dX0_heats_10 : decode cX0_heats 10 = .ok (.invokevirtual 204, 3) := dk_182 0 204 (dk_at dksX0_heats_0 10 rfl rfl)
theorem dX0_heats_13 : decode cX0_heats 13 = .ok (.ifCond .eq 11, 3) := dk_153 0 11 (dk_at dksX0_heats_0 13 rfl rfl)
theorem dX0_heats_16 : decode cX0_heats 16 = .ok (.aload_n 0, 1) := dk_42 (dk_at dksX0_heats_0 16 rfl rfl)
theorem dX0_heats_17 : decode cX0_heats 17 = .ok (.iload_n 3, 1) := dk_29 (dk_at dksX0_heats_0 17 rfl rfl)
theorem dX0_heats_18 : decode cX0_heats 18 = .ok (.invokevirtual 192, 3) := dk_182 0 192 (dk_at dksX0_heats_0 18 rfl rfl)
theorem dX0_heats_21 : decode cX0_heats 21 = .ok (.ifCond .ne 5, 3) := dk_154 0 5 (dk_at dksX0_heats_0 21 rfl rfl)
theorem dX0_heats_24 : decode cX0_heats 24 = .ok (.iconst (-1), 1) := dk_2 (dk_at dksX0_heats_1 0 rfl rfl)
theorem dX0_heats_25 : decode cX0_heats 25 = .ok (.ireturn, 1) := dk_172 (dk_at dksX0_heats_1 1 rfl rfl)
theorem dX0_heats_26 : decode cX0_heats 26 = .ok (.iconst 0, 1) := dk_3 (dk_at dksX0_heats_1 2 rfl rfl)
theorem dX0_heats_27 : decode cX0_heats 27 = .ok (.istore 4, 2) := dk_54 4 (dk_at dksX0_heats_1 3 rfl rfl)
theorem dX0_heats_29 : decode cX0_heats 29 = .ok (.iconst 0, 1) := dk_3 (dk_at dksX0_heats_1 5 rfl rfl)
theorem dX0_heats_30 : decode cX0_heats 30 = .ok (.istore 5, 2) := dk_54 5 (dk_at dksX0_heats_1 6 rfl rfl)
theorem dX0_heats_32 : decode cX0_heats 32 = .ok (.iload 5, 2) := dk_21 5 (dk_at dksX0_heats_1 8 rfl rfl)
theorem dX0_heats_34 : decode cX0_heats 34 = .ok (.bipush 9, 2) := dk_16 9 (dk_at dksX0_heats_1 10 rfl rfl)
theorem dX0_heats_36 : decode cX0_heats 36 = .ok (.if_icmp .gt 42, 3) := dk_163 0 42 (dk_at dksX0_heats_1 12 rfl rfl)
theorem dX0_heats_39 : decode cX0_heats 39 = .ok (.iload 4, 2) := dk_21 4 (dk_at dksX0_heats_1 15 rfl rfl)
theorem dX0_heats_41 : decode cX0_heats 41 = .ok (.aload_n 0, 1) := dk_42 (dk_at dksX0_heats_1 17 rfl rfl)
theorem dX0_heats_42 : decode cX0_heats 42 = .ok (.aload_n 0, 1) := dk_42 (dk_at dksX0_heats_1 18 rfl rfl)
theorem dX0_heats_43 : decode cX0_heats 43 = .ok (.getfield 31, 3) := dk_180 0 31 (dk_at dksX0_heats_1 19 rfl rfl)
theorem dX0_heats_46 : decode cX0_heats 46 = .ok (.getfield 164, 3) := dk_180 0 164 (dk_at dksX0_heats_2 0 rfl rfl)
theorem dX0_heats_49 : decode cX0_heats 49 = .ok (.iload_n 1, 1) := dk_27 (dk_at dksX0_heats_2 3 rfl rfl)
theorem dX0_heats_50 : decode cX0_heats 50 = .ok (.iaload, 1) := dk_46 (dk_at dksX0_heats_2 4 rfl rfl)
theorem dX0_heats_51 : decode cX0_heats 51 = .ok (.iload_n 2, 1) := dk_28 (dk_at dksX0_heats_2 5 rfl rfl)
theorem dX0_heats_52 : decode cX0_heats 52 = .ok (.iload 5, 2) := dk_21 5 (dk_at dksX0_heats_2 6 rfl rfl)
theorem dX0_heats_54 : decode cX0_heats 54 = .ok (.invokevirtual 236, 3) := dk_182 0 236 (dk_at dksX0_heats_2 8 rfl rfl)
theorem dX0_heats_57 : decode cX0_heats 57 = .ok (.iload_n 3, 1) := dk_29 (dk_at dksX0_heats_2 11 rfl rfl)
theorem dX0_heats_58 : decode cX0_heats 58 = .ok (.if_icmp .ne 10, 3) := dk_160 0 10 (dk_at dksX0_heats_2 12 rfl rfl)
theorem dX0_heats_61 : decode cX0_heats 61 = .ok (.iconst 1, 1) := dk_4 (dk_at dksX0_heats_2 15 rfl rfl)
theorem dX0_heats_62 : decode cX0_heats 62 = .ok (.iload 5, 2) := dk_21 5 (dk_at dksX0_heats_2 16 rfl rfl)
theorem dX0_heats_64 : decode cX0_heats 64 = .ok (.ishl, 1) := dk_120 (dk_at dksX0_heats_2 18 rfl rfl)
theorem dX0_heats_65 : decode cX0_heats 65 = .ok (.goto 4, 3) := dk_167 0 4 (dk_at dksX0_heats_2 19 rfl rfl)
theorem dX0_heats_68 : decode cX0_heats 68 = .ok (.iconst 0, 1) := dk_3 (dk_at dksX0_heats_2 22 rfl rfl)
theorem dX0_heats_69 : decode cX0_heats 69 = .ok (.ior, 1) := dk_128 (dk_at dksX0_heats_2 23 rfl rfl)
theorem dX0_heats_70 : decode cX0_heats 70 = .ok (.istore 4, 2) := dk_54 4 (dk_at dksX0_heats_3 0 rfl rfl)
theorem dX0_heats_72 : decode cX0_heats 72 = .ok (.iinc 5 1, 3) := dk_132 5 1 (dk_at dksX0_heats_3 2 rfl rfl)
theorem dX0_heats_75 : decode cX0_heats 75 = .ok (.goto (-43), 3) := dk_167 255 213 (dk_at dksX0_heats_3 5 rfl rfl)
theorem dX0_heats_78 : decode cX0_heats 78 = .ok (.iload 4, 2) := dk_21 4 (dk_at dksX0_heats_3 8 rfl rfl)
theorem dX0_heats_80 : decode cX0_heats 80 = .ok (.ireturn, 1) := dk_172 (dk_at dksX0_heats_3 10 rfl rfl)
abbrev cX0_luck : ByteArray := prog_1_method_34_code
def yX0_luck : MethodName := ⟨RX0, "luck", "(IIII)I"⟩
def dkwX0_luck_1 : List UInt8 := [182, 0, 248, 167, 0, 4, 2, 172]
abbrev dktX0_luck_1 : List UInt8 := dkwX0_luck_1 ++ []
def dkwX0_luck_0 : List UInt8 := [42, 21, 4, 182, 0, 192, 153, 0, 22, 42, 27, 28, 29, 182, 0, 245, 153, 0, 12, 42, 21, 4]
abbrev dktX0_luck_0 : List UInt8 := dkwX0_luck_0 ++ dktX0_luck_1
theorem dksX0_luck_0 : cX0_luck.data.toList.drop 0 = dktX0_luck_0 := by decide +kernel
theorem dksX0_luck_1 : cX0_luck.data.toList.drop 22 = dktX0_luck_1 := dk_seg dksX0_luck_0 22 rfl rfl
theorem dX0_luck_0 : decode cX0_luck 0 = .ok (.aload_n 0, 1) := dk_42 (dk_at dksX0_luck_0 0 rfl rfl)
theorem dX0_luck_1 : decode cX0_luck 1 = .ok (.iload 4, 2) := dk_21 4 (dk_at dksX0_luck_0 1 rfl rfl)
theorem dX0_luck_3 : decode cX0_luck 3 = .ok (.invokevirtual 192, 3) := dk_182 0 192 (dk_at dksX0_luck_0 3 rfl rfl)
theorem dX0_luck_6 : decode cX0_luck 6 = .ok (.ifCond .eq 22, 3) := dk_153 0 22 (dk_at dksX0_luck_0 6 rfl rfl)
theorem dX0_luck_9 : decode cX0_luck 9 = .ok (.aload_n 0, 1) := dk_42 (dk_at dksX0_luck_0 9 rfl rfl)
theorem dX0_luck_10 : decode cX0_luck 10 = .ok (.iload_n 1, 1) := dk_27 (dk_at dksX0_luck_0 10 rfl rfl)
theorem dX0_luck_11 : decode cX0_luck 11 = .ok (.iload_n 2, 1) := dk_28 (dk_at dksX0_luck_0 11 rfl rfl)
theorem dX0_luck_12 : decode cX0_luck 12 = .ok (.iload_n 3, 1) := dk_29 (dk_at dksX0_luck_0 12 rfl rfl)
theorem dX0_luck_13 : decode cX0_luck 13 = .ok (.invokevirtual 245, 3) := dk_182 0 245 (dk_at dksX0_luck_0 13 rfl rfl)
theorem dX0_luck_16 : decode cX0_luck 16 = .ok (.ifCond .eq 12, 3) := dk_153 0 12 (dk_at dksX0_luck_0 16 rfl rfl)
theorem dX0_luck_19 : decode cX0_luck 19 = .ok (.aload_n 0, 1) := dk_42 (dk_at dksX0_luck_0 19 rfl rfl)
theorem dX0_luck_20 : decode cX0_luck 20 = .ok (.iload 4, 2) := dk_21 4 (dk_at dksX0_luck_0 20 rfl rfl)
theorem dX0_luck_22 : decode cX0_luck 22 = .ok (.invokevirtual 248, 3) := dk_182 0 248 (dk_at dksX0_luck_1 0 rfl rfl)
theorem dX0_luck_25 : decode cX0_luck 25 = .ok (.goto 4, 3) := dk_167 0 4 (dk_at dksX0_luck_1 3 rfl rfl)
theorem dX0_luck_28 : decode cX0_luck 28 = .ok (.iconst (-1), 1) := dk_2 (dk_at dksX0_luck_1 6 rfl rfl)
theorem dX0_luck_29 : decode cX0_luck 29 = .ok (.ireturn, 1) := dk_172 (dk_at dksX0_luck_1 7 rfl rfl)
abbrev cX0_layGiven : ByteArray := prog_1_method_32_code
def yX0_layGiven : MethodName := ⟨RX0, "layGiven", "(III)Z"⟩
def dkwX0_layGiven_3 : List UInt8 := [132, 4, 1, 167, 255, 212, 4, 172]
abbrev dktX0_layGiven_3 : List UInt8 := dkwX0_layGiven_3 ++ []
def dkwX0_layGiven_2 : List UInt8 := [180, 0, 31, 180, 0, 164, 27, 46, 28, 29, 42, 180, 0, 31, 180, 0, 197, 21, 4, 182, 0, 200, 79]
abbrev dktX0_layGiven_2 : List UInt8 := dkwX0_layGiven_2 ++ dktX0_layGiven_3
def dkwX0_layGiven_1 : List UInt8 := [172, 3, 54, 4, 21, 4, 16, 100, 162, 0, 43, 42, 180, 0, 42, 21, 4, 42, 180, 0, 20, 42]
abbrev dktX0_layGiven_1 : List UInt8 := dkwX0_layGiven_1 ++ dktX0_layGiven_2
def dkwX0_layGiven_0 : List UInt8 := [42, 27, 182, 0, 160, 153, 0, 18, 42, 28, 182, 0, 204, 153, 0, 10, 29, 184, 0, 207, 154, 0, 5, 3]
abbrev dktX0_layGiven_0 : List UInt8 := dkwX0_layGiven_0 ++ dktX0_layGiven_1
theorem dksX0_layGiven_0 : cX0_layGiven.data.toList.drop 0 = dktX0_layGiven_0 := by decide +kernel
theorem dksX0_layGiven_1 : cX0_layGiven.data.toList.drop 24 = dktX0_layGiven_1 := dk_seg dksX0_layGiven_0 24 rfl rfl
theorem dksX0_layGiven_2 : cX0_layGiven.data.toList.drop 46 = dktX0_layGiven_2 := dk_seg dksX0_layGiven_1 22 rfl rfl
theorem dksX0_layGiven_3 : cX0_layGiven.data.toList.drop 69 = dktX0_layGiven_3 := dk_seg dksX0_layGiven_2 23 rfl rfl
theorem dX0_layGiven_0 : decode cX0_layGiven 0 = .ok (.aload_n 0, 1) := dk_42 (dk_at dksX0_layGiven_0 0 rfl rfl)
theorem dX0_layGiven_1 : decode cX0_layGiven 1 = .ok (.iload_n 1, 1) := dk_27 (dk_at dksX0_layGiven_0 1 rfl rfl)
theorem dX0_layGiven_2 : decode cX0_layGiven 2 = .ok (.invokevirtual 160, 3) := dk_182 0 160 (dk_at dksX0_layGiven_0 2 rfl rfl)
theorem dX0_layGiven_5 : decode cX0_layGiven 5 = .ok (.ifCond .eq 18, 3) := dk_153 0 18 (dk_at dksX0_layGiven_0 5 rfl rfl)
theorem dX0_layGiven_8 : decode cX0_layGiven 8 = .ok (.aload_n 0, 1) := dk_42 (dk_at dksX0_layGiven_0 8 rfl rfl)
theorem dX0_layGiven_9 : decode cX0_layGiven 9 = .ok (.iload_n 2, 1) := dk_28 (dk_at dksX0_layGiven_0 9 rfl rfl)
theorem dX0_layGiven_10 : decode cX0_layGiven 10 = .ok (.invokevirtual 204, 3) := dk_182 0 204 (dk_at dksX0_layGiven_0 10 rfl rfl)
theorem dX0_layGiven_13 : decode cX0_layGiven 13 = .ok (.ifCond .eq 10, 3) := dk_153 0 10 (dk_at dksX0_layGiven_0 13 rfl rfl)
theorem dX0_layGiven_16 : decode cX0_layGiven 16 = .ok (.iload_n 3, 1) := dk_29 (dk_at dksX0_layGiven_0 16 rfl rfl)
theorem dX0_layGiven_17 : decode cX0_layGiven 17 = .ok (.invokestatic 207, 3) := dk_184 0 207 (dk_at dksX0_layGiven_0 17 rfl rfl)
theorem dX0_layGiven_20 : decode cX0_layGiven 20 = .ok (.ifCond .ne 5, 3) := dk_154 0 5 (dk_at dksX0_layGiven_0 20 rfl rfl)
theorem dX0_layGiven_23 : decode cX0_layGiven 23 = .ok (.iconst 0, 1) := dk_3 (dk_at dksX0_layGiven_0 23 rfl rfl)
theorem dX0_layGiven_24 : decode cX0_layGiven 24 = .ok (.ireturn, 1) := dk_172 (dk_at dksX0_layGiven_1 0 rfl rfl)
theorem dX0_layGiven_25 : decode cX0_layGiven 25 = .ok (.iconst 0, 1) := dk_3 (dk_at dksX0_layGiven_1 1 rfl rfl)
theorem dX0_layGiven_26 : decode cX0_layGiven 26 = .ok (.istore 4, 2) := dk_54 4 (dk_at dksX0_layGiven_1 2 rfl rfl)
theorem dX0_layGiven_28 : decode cX0_layGiven 28 = .ok (.iload 4, 2) := dk_21 4 (dk_at dksX0_layGiven_1 4 rfl rfl)
theorem dX0_layGiven_30 : decode cX0_layGiven 30 = .ok (.bipush 100, 2) := dk_16 100 (dk_at dksX0_layGiven_1 6 rfl rfl)
theorem dX0_layGiven_32 : decode cX0_layGiven 32 = .ok (.if_icmp .ge 43, 3) := dk_162 0 43 (dk_at dksX0_layGiven_1 8 rfl rfl)
theorem dX0_layGiven_35 : decode cX0_layGiven 35 = .ok (.aload_n 0, 1) := dk_42 (dk_at dksX0_layGiven_1 11 rfl rfl)
theorem dX0_layGiven_36 : decode cX0_layGiven 36 = .ok (.getfield 42, 3) := dk_180 0 42 (dk_at dksX0_layGiven_1 12 rfl rfl)
theorem dX0_layGiven_39 : decode cX0_layGiven 39 = .ok (.iload 4, 2) := dk_21 4 (dk_at dksX0_layGiven_1 15 rfl rfl)
theorem dX0_layGiven_41 : decode cX0_layGiven 41 = .ok (.aload_n 0, 1) := dk_42 (dk_at dksX0_layGiven_1 17 rfl rfl)
theorem dX0_layGiven_42 : decode cX0_layGiven 42 = .ok (.getfield 20, 3) := dk_180 0 20 (dk_at dksX0_layGiven_1 18 rfl rfl)
theorem dX0_layGiven_45 : decode cX0_layGiven 45 = .ok (.aload_n 0, 1) := dk_42 (dk_at dksX0_layGiven_1 21 rfl rfl)
theorem dX0_layGiven_46 : decode cX0_layGiven 46 = .ok (.getfield 31, 3) := dk_180 0 31 (dk_at dksX0_layGiven_2 0 rfl rfl)
theorem dX0_layGiven_49 : decode cX0_layGiven 49 = .ok (.getfield 164, 3) := dk_180 0 164 (dk_at dksX0_layGiven_2 3 rfl rfl)
theorem dX0_layGiven_52 : decode cX0_layGiven 52 = .ok (.iload_n 1, 1) := dk_27 (dk_at dksX0_layGiven_2 6 rfl rfl)
theorem dX0_layGiven_53 : decode cX0_layGiven 53 = .ok (.iaload, 1) := dk_46 (dk_at dksX0_layGiven_2 7 rfl rfl)
theorem dX0_layGiven_54 : decode cX0_layGiven 54 = .ok (.iload_n 2, 1) := dk_28 (dk_at dksX0_layGiven_2 8 rfl rfl)
theorem dX0_layGiven_55 : decode cX0_layGiven 55 = .ok (.iload_n 3, 1) := dk_29 (dk_at dksX0_layGiven_2 9 rfl rfl)
theorem dX0_layGiven_56 : decode cX0_layGiven 56 = .ok (.aload_n 0, 1) := dk_42 (dk_at dksX0_layGiven_2 10 rfl rfl)
theorem dX0_layGiven_57 : decode cX0_layGiven 57 = .ok (.getfield 31, 3) := dk_180 0 31 (dk_at dksX0_layGiven_2 11 rfl rfl)
theorem dX0_layGiven_60 : decode cX0_layGiven 60 = .ok (.getfield 197, 3) := dk_180 0 197 (dk_at dksX0_layGiven_2 14 rfl rfl)
theorem dX0_layGiven_63 : decode cX0_layGiven 63 = .ok (.iload 4, 2) := dk_21 4 (dk_at dksX0_layGiven_2 17 rfl rfl)
theorem dX0_layGiven_65 : decode cX0_layGiven 65 = .ok (.invokevirtual 200, 3) := dk_182 0 200 (dk_at dksX0_layGiven_2 19 rfl rfl)
theorem dX0_layGiven_68 : decode cX0_layGiven 68 = .ok (.iastore, 1) := dk_79 (dk_at dksX0_layGiven_2 22 rfl rfl)
theorem dX0_layGiven_69 : decode cX0_layGiven 69 = .ok (.iinc 4 1, 3) := dk_132 4 1 (dk_at dksX0_layGiven_3 0 rfl rfl)
theorem dX0_layGiven_72 : decode cX0_layGiven 72 = .ok (.goto (-44), 3) := dk_167 255 212 (dk_at dksX0_layGiven_3 3 rfl rfl)
theorem dX0_layGiven_75 : decode cX0_layGiven 75 = .ok (.iconst 1, 1) := dk_4 (dk_at dksX0_layGiven_3 6 rfl rfl)
theorem dX0_layGiven_76 : decode cX0_layGiven 76 = .ok (.ireturn, 1) := dk_172 (dk_at dksX0_layGiven_3 7 rfl rfl)
abbrev cX0_drawsOf : ByteArray := prog_1_method_33_code
def yX0_drawsOf : MethodName := ⟨RX0, "drawsOf", "(I)I"⟩
def dkwX0_drawsOf_1 : List UInt8 := [167, 0, 4, 3, 96, 61, 132, 3, 1, 167, 255, 229, 28, 172]
abbrev dktX0_drawsOf_1 : List UInt8 := dkwX0_drawsOf_1 ++ []
def dkwX0_drawsOf_0 : List UInt8 := [3, 61, 3, 62, 29, 16, 100, 162, 0, 27, 28, 42, 180, 0, 42, 29, 46, 27, 160, 0, 7, 4]
abbrev dktX0_drawsOf_0 : List UInt8 := dkwX0_drawsOf_0 ++ dktX0_drawsOf_1
theorem dksX0_drawsOf_0 : cX0_drawsOf.data.toList.drop 0 = dktX0_drawsOf_0 := by decide +kernel
theorem dksX0_drawsOf_1 : cX0_drawsOf.data.toList.drop 22 = dktX0_drawsOf_1 := dk_seg dksX0_drawsOf_0 22 rfl rfl
theorem dX0_drawsOf_0 : decode cX0_drawsOf 0 = .ok (.iconst 0, 1) := dk_3 (dk_at dksX0_drawsOf_0 0 rfl rfl)
theorem dX0_drawsOf_1 : decode cX0_drawsOf 1 = .ok (.istore_n 2, 1) := dk_61 (dk_at dksX0_drawsOf_0 1 rfl rfl)
theorem dX0_drawsOf_2 : decode cX0_drawsOf 2 = .ok (.iconst 0, 1) := dk_3 (dk_at dksX0_drawsOf_0 2 rfl rfl)
theorem dX0_drawsOf_3 : decode cX0_drawsOf 3 = .ok (.istore_n 3, 1) := dk_62 (dk_at dksX0_drawsOf_0 3 rfl rfl)
theorem dX0_drawsOf_4 : decode cX0_drawsOf 4 = .ok (.iload_n 3, 1) := dk_29 (dk_at dksX0_drawsOf_0 4 rfl rfl)
theorem dX0_drawsOf_5 : decode cX0_drawsOf 5 = .ok (.bipush 100, 2) := dk_16 100 (dk_at dksX0_drawsOf_0 5 rfl rfl)
theorem dX0_drawsOf_7 : decode cX0_drawsOf 7 = .ok (.if_icmp .ge 27, 3) := dk_162 0 27 (dk_at dksX0_drawsOf_0 7 rfl rfl)
theorem dX0_drawsOf_10 : decode cX0_drawsOf 10 = .ok (.iload_n 2, 1) := dk_28 (dk_at dksX0_drawsOf_0 10 rfl rfl)
theorem dX0_drawsOf_11 : decode cX0_drawsOf 11 = .ok (.aload_n 0, 1) := dk_42 (dk_at dksX0_drawsOf_0 11 rfl rfl)
theorem dX0_drawsOf_12 : decode cX0_drawsOf 12 = .ok (.getfield 42, 3) := dk_180 0 42 (dk_at dksX0_drawsOf_0 12 rfl rfl)
theorem dX0_drawsOf_15 : decode cX0_drawsOf 15 = .ok (.iload_n 3, 1) := dk_29 (dk_at dksX0_drawsOf_0 15 rfl rfl)
theorem dX0_drawsOf_16 : decode cX0_drawsOf 16 = .ok (.iaload, 1) := dk_46 (dk_at dksX0_drawsOf_0 16 rfl rfl)
theorem dX0_drawsOf_17 : decode cX0_drawsOf 17 = .ok (.iload_n 1, 1) := dk_27 (dk_at dksX0_drawsOf_0 17 rfl rfl)
theorem dX0_drawsOf_18 : decode cX0_drawsOf 18 = .ok (.if_icmp .ne 7, 3) := dk_160 0 7 (dk_at dksX0_drawsOf_0 18 rfl rfl)
theorem dX0_drawsOf_21 : decode cX0_drawsOf 21 = .ok (.iconst 1, 1) := dk_4 (dk_at dksX0_drawsOf_0 21 rfl rfl)
theorem dX0_drawsOf_22 : decode cX0_drawsOf 22 = .ok (.goto 4, 3) := dk_167 0 4 (dk_at dksX0_drawsOf_1 0 rfl rfl)
theorem dX0_drawsOf_25 : decode cX0_drawsOf 25 = .ok (.iconst 0, 1) := dk_3 (dk_at dksX0_drawsOf_1 3 rfl rfl)
theorem dX0_drawsOf_26 : decode cX0_drawsOf 26 = .ok (.iadd, 1) := dk_96 (dk_at dksX0_drawsOf_1 4 rfl rfl)
theorem dX0_drawsOf_27 : decode cX0_drawsOf 27 = .ok (.istore_n 2, 1) := dk_61 (dk_at dksX0_drawsOf_1 5 rfl rfl)
theorem dX0_drawsOf_28 : decode cX0_drawsOf 28 = .ok (.iinc 3 1, 3) := dk_132 3 1 (dk_at dksX0_drawsOf_1 6 rfl rfl)
theorem dX0_drawsOf_31 : decode cX0_drawsOf 31 = .ok (.goto (-27), 3) := dk_167 255 229 (dk_at dksX0_drawsOf_1 9 rfl rfl)
theorem dX0_drawsOf_34 : decode cX0_drawsOf 34 = .ok (.iload_n 2, 1) := dk_28 (dk_at dksX0_drawsOf_1 12 rfl rfl)
theorem dX0_drawsOf_35 : decode cX0_drawsOf 35 = .ok (.ireturn, 1) := dk_172 (dk_at dksX0_drawsOf_1 13 rfl rfl)
abbrev cX0_likely : ByteArray := prog_1_method_35_code
def yX0_likely : MethodName := ⟨RX0, "likely", "(IIII)I"⟩
def dkwX0_likely_5 : List UInt8 := [172]
abbrev dktX0_likely_5 : List UInt8 := dkwX0_likely_5 ++ []
def dkwX0_likely_4 : List UInt8 := [54, 5, 132, 6, 1, 167, 255, 190, 21, 4, 154, 0, 8, 21, 5, 167, 0, 9, 42, 21, 5, 182, 0, 248]
abbrev dktX0_likely_4 : List UInt8 := dkwX0_likely_4 ++ dktX0_likely_5
def dkwX0_likely_3 : List UInt8 := [180, 0, 42, 21, 6, 46, 21, 5, 162, 0, 13, 42, 180, 0, 42, 21, 6, 46, 167, 0, 5, 21, 5]
abbrev dktX0_likely_3 : List UInt8 := dkwX0_likely_3 ++ dktX0_likely_4
def dkwX0_likely_2 : List UInt8 := [46, 182, 0, 248, 42, 21, 5, 182, 0, 248, 100, 54, 7, 21, 7, 157, 0, 20, 21, 7, 154, 0, 25, 42]
abbrev dktX0_likely_2 : List UInt8 := dkwX0_likely_2 ++ dktX0_likely_3
def dkwX0_likely_1 : List UInt8 := [180, 0, 42, 3, 46, 54, 5, 4, 54, 6, 21, 6, 16, 100, 162, 0, 65, 42, 42, 180, 0, 42, 21, 6]
abbrev dktX0_likely_1 : List UInt8 := dkwX0_likely_1 ++ dktX0_likely_2
def dkwX0_likely_0 : List UInt8 := [21, 4, 3, 4, 184, 0, 150, 153, 0, 13, 42, 27, 28, 29, 182, 0, 245, 154, 0, 5, 2, 172, 42]
abbrev dktX0_likely_0 : List UInt8 := dkwX0_likely_0 ++ dktX0_likely_1
theorem dksX0_likely_0 : cX0_likely.data.toList.drop 0 = dktX0_likely_0 := by decide +kernel
theorem dksX0_likely_1 : cX0_likely.data.toList.drop 23 = dktX0_likely_1 := dk_seg dksX0_likely_0 23 rfl rfl
theorem dksX0_likely_2 : cX0_likely.data.toList.drop 47 = dktX0_likely_2 := dk_seg dksX0_likely_1 24 rfl rfl
theorem dksX0_likely_3 : cX0_likely.data.toList.drop 71 = dktX0_likely_3 := dk_seg dksX0_likely_2 24 rfl rfl
theorem dksX0_likely_4 : cX0_likely.data.toList.drop 94 = dktX0_likely_4 := dk_seg dksX0_likely_3 23 rfl rfl
theorem dksX0_likely_5 : cX0_likely.data.toList.drop 118 = dktX0_likely_5 := dk_seg dksX0_likely_4 24 rfl rfl
theorem dX0_likely_0 : decode cX0_likely 0 = .ok (.iload 4, 2) := dk_21 4 (dk_at dksX0_likely_0 0 rfl rfl)
theorem dX0_likely_2 : decode cX0_likely 2 = .ok (.iconst 0, 1) := dk_3 (dk_at dksX0_likely_0 2 rfl rfl)
theorem dX0_likely_3 : decode cX0_likely 3 = .ok (.iconst 1, 1) := dk_4 (dk_at dksX0_likely_0 3 rfl rfl)
theorem dX0_likely_4 : decode cX0_likely 4 = .ok (.invokestatic 150, 3) := dk_184 0 150 (dk_at dksX0_likely_0 4 rfl rfl)
theorem dX0_likely_7 : decode cX0_likely 7 = .ok (.ifCond .eq 13, 3) := dk_153 0 13 (dk_at dksX0_likely_0 7 rfl rfl)
theorem dX0_likely_10 : decode cX0_likely 10 = .ok (.aload_n 0, 1) := dk_42 (dk_at dksX0_likely_0 10 rfl rfl)
theorem dX0_likely_11 : decode cX0_likely 11 = .ok (.iload_n 1, 1) := dk_27 (dk_at dksX0_likely_0 11 rfl rfl)
theorem dX0_likely_12 : decode cX0_likely 12 = .ok (.iload_n 2, 1) := dk_28 (dk_at dksX0_likely_0 12 rfl rfl)
theorem dX0_likely_13 : decode cX0_likely 13 = .ok (.iload_n 3, 1) := dk_29 (dk_at dksX0_likely_0 13 rfl rfl)
theorem dX0_likely_14 : decode cX0_likely 14 = .ok (.invokevirtual 245, 3) := dk_182 0 245 (dk_at dksX0_likely_0 14 rfl rfl)
theorem dX0_likely_17 : decode cX0_likely 17 = .ok (.ifCond .ne 5, 3) := dk_154 0 5 (dk_at dksX0_likely_0 17 rfl rfl)
theorem dX0_likely_20 : decode cX0_likely 20 = .ok (.iconst (-1), 1) := dk_2 (dk_at dksX0_likely_0 20 rfl rfl)
theorem dX0_likely_21 : decode cX0_likely 21 = .ok (.ireturn, 1) := dk_172 (dk_at dksX0_likely_0 21 rfl rfl)
theorem dX0_likely_22 : decode cX0_likely 22 = .ok (.aload_n 0, 1) := dk_42 (dk_at dksX0_likely_0 22 rfl rfl)
theorem dX0_likely_23 : decode cX0_likely 23 = .ok (.getfield 42, 3) := dk_180 0 42 (dk_at dksX0_likely_1 0 rfl rfl)
theorem dX0_likely_26 : decode cX0_likely 26 = .ok (.iconst 0, 1) := dk_3 (dk_at dksX0_likely_1 3 rfl rfl)
theorem dX0_likely_27 : decode cX0_likely 27 = .ok (.iaload, 1) := dk_46 (dk_at dksX0_likely_1 4 rfl rfl)
theorem dX0_likely_28 : decode cX0_likely 28 = .ok (.istore 5, 2) := dk_54 5 (dk_at dksX0_likely_1 5 rfl rfl)
theorem dX0_likely_30 : decode cX0_likely 30 = .ok (.iconst 1, 1) := dk_4 (dk_at dksX0_likely_1 7 rfl rfl)
theorem dX0_likely_31 : decode cX0_likely 31 = .ok (.istore 6, 2) := dk_54 6 (dk_at dksX0_likely_1 8 rfl rfl)
theorem dX0_likely_33 : decode cX0_likely 33 = .ok (.iload 6, 2) := dk_21 6 (dk_at dksX0_likely_1 10 rfl rfl)
theorem dX0_likely_35 : decode cX0_likely 35 = .ok (.bipush 100, 2) := dk_16 100 (dk_at dksX0_likely_1 12 rfl rfl)
theorem dX0_likely_37 : decode cX0_likely 37 = .ok (.if_icmp .ge 65, 3) := dk_162 0 65 (dk_at dksX0_likely_1 14 rfl rfl)
theorem dX0_likely_40 : decode cX0_likely 40 = .ok (.aload_n 0, 1) := dk_42 (dk_at dksX0_likely_1 17 rfl rfl)
theorem dX0_likely_41 : decode cX0_likely 41 = .ok (.aload_n 0, 1) := dk_42 (dk_at dksX0_likely_1 18 rfl rfl)
theorem dX0_likely_42 : decode cX0_likely 42 = .ok (.getfield 42, 3) := dk_180 0 42 (dk_at dksX0_likely_1 19 rfl rfl)
theorem dX0_likely_45 : decode cX0_likely 45 = .ok (.iload 6, 2) := dk_21 6 (dk_at dksX0_likely_1 22 rfl rfl)
theorem dX0_likely_47 : decode cX0_likely 47 = .ok (.iaload, 1) := dk_46 (dk_at dksX0_likely_2 0 rfl rfl)
theorem dX0_likely_48 : decode cX0_likely 48 = .ok (.invokevirtual 248, 3) := dk_182 0 248 (dk_at dksX0_likely_2 1 rfl rfl)
theorem dX0_likely_51 : decode cX0_likely 51 = .ok (.aload_n 0, 1) := dk_42 (dk_at dksX0_likely_2 4 rfl rfl)
theorem dX0_likely_52 : decode cX0_likely 52 = .ok (.iload 5, 2) := dk_21 5 (dk_at dksX0_likely_2 5 rfl rfl)
theorem dX0_likely_54 : decode cX0_likely 54 = .ok (.invokevirtual 248, 3) := dk_182 0 248 (dk_at dksX0_likely_2 7 rfl rfl)
theorem dX0_likely_57 : decode cX0_likely 57 = .ok (.isub, 1) := dk_100 (dk_at dksX0_likely_2 10 rfl rfl)
theorem dX0_likely_58 : decode cX0_likely 58 = .ok (.istore 7, 2) := dk_54 7 (dk_at dksX0_likely_2 11 rfl rfl)
theorem dX0_likely_60 : decode cX0_likely 60 = .ok (.iload 7, 2) := dk_21 7 (dk_at dksX0_likely_2 13 rfl rfl)
theorem dX0_likely_62 : decode cX0_likely 62 = .ok (.ifCond .gt 20, 3) := dk_157 0 20 (dk_at dksX0_likely_2 15 rfl rfl)
theorem dX0_likely_65 : decode cX0_likely 65 = .ok (.iload 7, 2) := dk_21 7 (dk_at dksX0_likely_2 18 rfl rfl)
theorem dX0_likely_67 : decode cX0_likely 67 = .ok (.ifCond .ne 25, 3) := dk_154 0 25 (dk_at dksX0_likely_2 20 rfl rfl)
theorem dX0_likely_70 : decode cX0_likely 70 = .ok (.aload_n 0, 1) := dk_42 (dk_at dksX0_likely_2 23 rfl rfl)
theorem dX0_likely_71 : decode cX0_likely 71 = .ok (.getfield 42, 3) := dk_180 0 42 (dk_at dksX0_likely_3 0 rfl rfl)
theorem dX0_likely_74 : decode cX0_likely 74 = .ok (.iload 6, 2) := dk_21 6 (dk_at dksX0_likely_3 3 rfl rfl)
theorem dX0_likely_76 : decode cX0_likely 76 = .ok (.iaload, 1) := dk_46 (dk_at dksX0_likely_3 5 rfl rfl)
theorem dX0_likely_77 : decode cX0_likely 77 = .ok (.iload 5, 2) := dk_21 5 (dk_at dksX0_likely_3 6 rfl rfl)
theorem dX0_likely_79 : decode cX0_likely 79 = .ok (.if_icmp .ge 13, 3) := dk_162 0 13 (dk_at dksX0_likely_3 8 rfl rfl)
theorem dX0_likely_82 : decode cX0_likely 82 = .ok (.aload_n 0, 1) := dk_42 (dk_at dksX0_likely_3 11 rfl rfl)
theorem dX0_likely_83 : decode cX0_likely 83 = .ok (.getfield 42, 3) := dk_180 0 42 (dk_at dksX0_likely_3 12 rfl rfl)
theorem dX0_likely_86 : decode cX0_likely 86 = .ok (.iload 6, 2) := dk_21 6 (dk_at dksX0_likely_3 15 rfl rfl)
theorem dX0_likely_88 : decode cX0_likely 88 = .ok (.iaload, 1) := dk_46 (dk_at dksX0_likely_3 17 rfl rfl)
theorem dX0_likely_89 : decode cX0_likely 89 = .ok (.goto 5, 3) := dk_167 0 5 (dk_at dksX0_likely_3 18 rfl rfl)
theorem dX0_likely_92 : decode cX0_likely 92 = .ok (.iload 5, 2) := dk_21 5 (dk_at dksX0_likely_3 21 rfl rfl)
theorem dX0_likely_94 : decode cX0_likely 94 = .ok (.istore 5, 2) := dk_54 5 (dk_at dksX0_likely_4 0 rfl rfl)
theorem dX0_likely_96 : decode cX0_likely 96 = .ok (.iinc 6 1, 3) := dk_132 6 1 (dk_at dksX0_likely_4 2 rfl rfl)
theorem dX0_likely_99 : decode cX0_likely 99 = .ok (.goto (-66), 3) := dk_167 255 190 (dk_at dksX0_likely_4 5 rfl rfl)
theorem dX0_likely_102 : decode cX0_likely 102 = .ok (.iload 4, 2) := dk_21 4 (dk_at dksX0_likely_4 8 rfl rfl)
theorem dX0_likely_104 : decode cX0_likely 104 = .ok (.ifCond .ne 8, 3) := dk_154 0 8 (dk_at dksX0_likely_4 10 rfl rfl)
theorem dX0_likely_107 : decode cX0_likely 107 = .ok (.iload 5, 2) := dk_21 5 (dk_at dksX0_likely_4 13 rfl rfl)
theorem dX0_likely_109 : decode cX0_likely 109 = .ok (.goto 9, 3) := dk_167 0 9 (dk_at dksX0_likely_4 15 rfl rfl)
theorem dX0_likely_112 : decode cX0_likely 112 = .ok (.aload_n 0, 1) := dk_42 (dk_at dksX0_likely_4 18 rfl rfl)
theorem dX0_likely_113 : decode cX0_likely 113 = .ok (.iload 5, 2) := dk_21 5 (dk_at dksX0_likely_4 19 rfl rfl)
theorem dX0_likely_115 : decode cX0_likely 115 = .ok (.invokevirtual 248, 3) := dk_182 0 248 (dk_at dksX0_likely_4 21 rfl rfl)
theorem dX0_likely_118 : decode cX0_likely 118 = .ok (.ireturn, 1) := dk_172 (dk_at dksX0_likely_5 0 rfl rfl)
abbrev cX0_fades : ByteArray := prog_1_method_36_code
def yX0_fades : MethodName := ⟨RX0, "fades", "(III)I"⟩
def dkwX0_fades_3 : List UInt8 := [2, 172]
abbrev dktX0_fades_3 : List UInt8 := dkwX0_fades_3 ++ []
def dkwX0_fades_2 : List UInt8 := [21, 4, 154, 0, 6, 21, 5, 172, 42, 21, 4, 28, 29, 182, 0, 236, 54, 4, 132, 5, 1, 167, 255, 226]
abbrev dktX0_fades_2 : List UInt8 := dkwX0_fades_2 ++ dktX0_fades_3
def dkwX0_fades_1 : List UInt8 := [172, 42, 180, 0, 31, 180, 0, 164, 27, 46, 54, 4, 3, 54, 5, 21, 5, 42, 182, 0, 157, 163, 0, 27]
abbrev dktX0_fades_1 : List UInt8 := dkwX0_fades_1 ++ dktX0_fades_2
def dkwX0_fades_0 : List UInt8 := [42, 27, 182, 0, 160, 153, 0, 18, 42, 28, 182, 0, 204, 153, 0, 10, 29, 184, 0, 207, 154, 0, 5, 2]
abbrev dktX0_fades_0 : List UInt8 := dkwX0_fades_0 ++ dktX0_fades_1
theorem dksX0_fades_0 : cX0_fades.data.toList.drop 0 = dktX0_fades_0 := by decide +kernel
theorem dksX0_fades_1 : cX0_fades.data.toList.drop 24 = dktX0_fades_1 := dk_seg dksX0_fades_0 24 rfl rfl
theorem dksX0_fades_2 : cX0_fades.data.toList.drop 48 = dktX0_fades_2 := dk_seg dksX0_fades_1 24 rfl rfl
theorem dksX0_fades_3 : cX0_fades.data.toList.drop 72 = dktX0_fades_3 := dk_seg dksX0_fades_2 24 rfl rfl
theorem dX0_fades_0 : decode cX0_fades 0 = .ok (.aload_n 0, 1) := dk_42 (dk_at dksX0_fades_0 0 rfl rfl)
theorem dX0_fades_1 : decode cX0_fades 1 = .ok (.iload_n 1, 1) := dk_27 (dk_at dksX0_fades_0 1 rfl rfl)
theorem dX0_fades_2 : decode cX0_fades 2 = .ok (.invokevirtual 160, 3) := dk_182 0 160 (dk_at dksX0_fades_0 2 rfl rfl)
theorem dX0_fades_5 : decode cX0_fades 5 = .ok (.ifCond .eq 18, 3) := dk_153 0 18 (dk_at dksX0_fades_0 5 rfl rfl)
theorem dX0_fades_8 : decode cX0_fades 8 = .ok (.aload_n 0, 1) := dk_42 (dk_at dksX0_fades_0 8 rfl rfl)
theorem dX0_fades_9 : decode cX0_fades 9 = .ok (.iload_n 2, 1) := dk_28 (dk_at dksX0_fades_0 9 rfl rfl)
theorem dX0_fades_10 : decode cX0_fades 10 = .ok (.invokevirtual 204, 3) := dk_182 0 204 (dk_at dksX0_fades_0 10 rfl rfl)
theorem dX0_fades_13 : decode cX0_fades 13 = .ok (.ifCond .eq 10, 3) := dk_153 0 10 (dk_at dksX0_fades_0 13 rfl rfl)
theorem dX0_fades_16 : decode cX0_fades 16 = .ok (.iload_n 3, 1) := dk_29 (dk_at dksX0_fades_0 16 rfl rfl)
theorem dX0_fades_17 : decode cX0_fades 17 = .ok (.invokestatic 207, 3) := dk_184 0 207 (dk_at dksX0_fades_0 17 rfl rfl)
theorem dX0_fades_20 : decode cX0_fades 20 = .ok (.ifCond .ne 5, 3) := dk_154 0 5 (dk_at dksX0_fades_0 20 rfl rfl)
theorem dX0_fades_23 : decode cX0_fades 23 = .ok (.iconst (-1), 1) := dk_2 (dk_at dksX0_fades_0 23 rfl rfl)
theorem dX0_fades_24 : decode cX0_fades 24 = .ok (.ireturn, 1) := dk_172 (dk_at dksX0_fades_1 0 rfl rfl)
theorem dX0_fades_25 : decode cX0_fades 25 = .ok (.aload_n 0, 1) := dk_42 (dk_at dksX0_fades_1 1 rfl rfl)
theorem dX0_fades_26 : decode cX0_fades 26 = .ok (.getfield 31, 3) := dk_180 0 31 (dk_at dksX0_fades_1 2 rfl rfl)
theorem dX0_fades_29 : decode cX0_fades 29 = .ok (.getfield 164, 3) := dk_180 0 164 (dk_at dksX0_fades_1 5 rfl rfl)
theorem dX0_fades_32 : decode cX0_fades 32 = .ok (.iload_n 1, 1) := dk_27 (dk_at dksX0_fades_1 8 rfl rfl)
theorem dX0_fades_33 : decode cX0_fades 33 = .ok (.iaload, 1) := dk_46 (dk_at dksX0_fades_1 9 rfl rfl)
theorem dX0_fades_34 : decode cX0_fades 34 = .ok (.istore 4, 2) := dk_54 4 (dk_at dksX0_fades_1 10 rfl rfl)
theorem dX0_fades_36 : decode cX0_fades 36 = .ok (.iconst 0, 1) := dk_3 (dk_at dksX0_fades_1 12 rfl rfl)
theorem dX0_fades_37 : decode cX0_fades 37 = .ok (.istore 5, 2) := dk_54 5 (dk_at dksX0_fades_1 13 rfl rfl)
theorem dX0_fades_39 : decode cX0_fades 39 = .ok (.iload 5, 2) := dk_21 5 (dk_at dksX0_fades_1 15 rfl rfl)
theorem dX0_fades_41 : decode cX0_fades 41 = .ok (.aload_n 0, 1) := dk_42 (dk_at dksX0_fades_1 17 rfl rfl)
theorem dX0_fades_42 : decode cX0_fades 42 = .ok (.invokevirtual 157, 3) := dk_182 0 157 (dk_at dksX0_fades_1 18 rfl rfl)
theorem dX0_fades_45 : decode cX0_fades 45 = .ok (.if_icmp .gt 27, 3) := dk_163 0 27 (dk_at dksX0_fades_1 21 rfl rfl)
theorem dX0_fades_48 : decode cX0_fades 48 = .ok (.iload 4, 2) := dk_21 4 (dk_at dksX0_fades_2 0 rfl rfl)
theorem dX0_fades_50 : decode cX0_fades 50 = .ok (.ifCond .ne 6, 3) := dk_154 0 6 (dk_at dksX0_fades_2 2 rfl rfl)
theorem dX0_fades_53 : decode cX0_fades 53 = .ok (.iload 5, 2) := dk_21 5 (dk_at dksX0_fades_2 5 rfl rfl)
theorem dX0_fades_55 : decode cX0_fades 55 = .ok (.ireturn, 1) := dk_172 (dk_at dksX0_fades_2 7 rfl rfl)
theorem dX0_fades_56 : decode cX0_fades 56 = .ok (.aload_n 0, 1) := dk_42 (dk_at dksX0_fades_2 8 rfl rfl)
theorem dX0_fades_57 : decode cX0_fades 57 = .ok (.iload 4, 2) := dk_21 4 (dk_at dksX0_fades_2 9 rfl rfl)
theorem dX0_fades_59 : decode cX0_fades 59 = .ok (.iload_n 2, 1) := dk_28 (dk_at dksX0_fades_2 11 rfl rfl)
theorem dX0_fades_60 : decode cX0_fades 60 = .ok (.iload_n 3, 1) := dk_29 (dk_at dksX0_fades_2 12 rfl rfl)
theorem dX0_fades_61 : decode cX0_fades 61 = .ok (.invokevirtual 236, 3) := dk_182 0 236 (dk_at dksX0_fades_2 13 rfl rfl)
theorem dX0_fades_64 : decode cX0_fades 64 = .ok (.istore 4, 2) := dk_54 4 (dk_at dksX0_fades_2 16 rfl rfl)
theorem dX0_fades_66 : decode cX0_fades 66 = .ok (.iinc 5 1, 3) := dk_132 5 1 (dk_at dksX0_fades_2 18 rfl rfl)
theorem dX0_fades_69 : decode cX0_fades 69 = .ok (.goto (-30), 3) := dk_167 255 226 (dk_at dksX0_fades_2 21 rfl rfl)
theorem dX0_fades_72 : decode cX0_fades 72 = .ok (.iconst (-1), 1) := dk_2 (dk_at dksX0_fades_3 0 rfl rfl)
theorem dX0_fades_73 : decode cX0_fades 73 = .ok (.ireturn, 1) := dk_172 (dk_at dksX0_fades_3 1 rfl rfl)
abbrev cX0_kin : ByteArray := prog_1_method_38_code
def yX0_kin : MethodName := ⟨RX0, "kin", "(III)I"⟩
def dkwX0_kin_3 : List UInt8 := [182, 0, 176, 104, 100, 172]
abbrev dktX0_kin_3 : List UInt8 := dkwX0_kin_3 ++ []
def dkwX0_kin_2 : List UInt8 := [180, 0, 31, 27, 182, 0, 176, 42, 180, 0, 31, 28, 182, 0, 176, 96, 5, 42, 180, 0, 31, 21, 4]
abbrev dktX0_kin_2 : List UInt8 := dkwX0_kin_2 ++ dktX0_kin_3
def dkwX0_kin_1 : List UInt8 := [154, 0, 5, 2, 172, 42, 27, 28, 182, 0, 251, 54, 4, 29, 154, 0, 8, 21, 4, 167, 0, 32, 42]
abbrev dktX0_kin_1 : List UInt8 := dkwX0_kin_1 ++ dktX0_kin_2
def dkwX0_kin_0 : List UInt8 := [42, 27, 182, 0, 160, 153, 0, 20, 42, 28, 182, 0, 160, 153, 0, 12, 29, 3, 4, 184, 0, 150]
abbrev dktX0_kin_0 : List UInt8 := dkwX0_kin_0 ++ dktX0_kin_1
theorem dksX0_kin_0 : cX0_kin.data.toList.drop 0 = dktX0_kin_0 := by decide +kernel
theorem dksX0_kin_1 : cX0_kin.data.toList.drop 22 = dktX0_kin_1 := dk_seg dksX0_kin_0 22 rfl rfl
theorem dksX0_kin_2 : cX0_kin.data.toList.drop 45 = dktX0_kin_2 := dk_seg dksX0_kin_1 23 rfl rfl
theorem dksX0_kin_3 : cX0_kin.data.toList.drop 68 = dktX0_kin_3 := dk_seg dksX0_kin_2 23 rfl rfl
theorem dX0_kin_0 : decode cX0_kin 0 = .ok (.aload_n 0, 1) := dk_42 (dk_at dksX0_kin_0 0 rfl rfl)
theorem dX0_kin_1 : decode cX0_kin 1 = .ok (.iload_n 1, 1) := dk_27 (dk_at dksX0_kin_0 1 rfl rfl)
theorem dX0_kin_2 : decode cX0_kin 2 = .ok (.invokevirtual 160, 3) := dk_182 0 160 (dk_at dksX0_kin_0 2 rfl rfl)
theorem dX0_kin_5 : decode cX0_kin 5 = .ok (.ifCond .eq 20, 3) := dk_153 0 20 (dk_at dksX0_kin_0 5 rfl rfl)
theorem dX0_kin_8 : decode cX0_kin 8 = .ok (.aload_n 0, 1) := dk_42 (dk_at dksX0_kin_0 8 rfl rfl)
theorem dX0_kin_9 : decode cX0_kin 9 = .ok (.iload_n 2, 1) := dk_28 (dk_at dksX0_kin_0 9 rfl rfl)
theorem dX0_kin_10 : decode cX0_kin 10 = .ok (.invokevirtual 160, 3) := dk_182 0 160 (dk_at dksX0_kin_0 10 rfl rfl)
theorem dX0_kin_13 : decode cX0_kin 13 = .ok (.ifCond .eq 12, 3) := dk_153 0 12 (dk_at dksX0_kin_0 13 rfl rfl)
theorem dX0_kin_16 : decode cX0_kin 16 = .ok (.iload_n 3, 1) := dk_29 (dk_at dksX0_kin_0 16 rfl rfl)
theorem dX0_kin_17 : decode cX0_kin 17 = .ok (.iconst 0, 1) := dk_3 (dk_at dksX0_kin_0 17 rfl rfl)
theorem dX0_kin_18 : decode cX0_kin 18 = .ok (.iconst 1, 1) := dk_4 (dk_at dksX0_kin_0 18 rfl rfl)
theorem dX0_kin_19 : decode cX0_kin 19 = .ok (.invokestatic 150, 3) := dk_184 0 150 (dk_at dksX0_kin_0 19 rfl rfl)
theorem dX0_kin_22 : decode cX0_kin 22 = .ok (.ifCond .ne 5, 3) := dk_154 0 5 (dk_at dksX0_kin_1 0 rfl rfl)
theorem dX0_kin_25 : decode cX0_kin 25 = .ok (.iconst (-1), 1) := dk_2 (dk_at dksX0_kin_1 3 rfl rfl)
theorem dX0_kin_26 : decode cX0_kin 26 = .ok (.ireturn, 1) := dk_172 (dk_at dksX0_kin_1 4 rfl rfl)
theorem dX0_kin_27 : decode cX0_kin 27 = .ok (.aload_n 0, 1) := dk_42 (dk_at dksX0_kin_1 5 rfl rfl)
theorem dX0_kin_28 : decode cX0_kin 28 = .ok (.iload_n 1, 1) := dk_27 (dk_at dksX0_kin_1 6 rfl rfl)
theorem dX0_kin_29 : decode cX0_kin 29 = .ok (.iload_n 2, 1) := dk_28 (dk_at dksX0_kin_1 7 rfl rfl)
theorem dX0_kin_30 : decode cX0_kin 30 = .ok (.invokevirtual 251, 3) := dk_182 0 251 (dk_at dksX0_kin_1 8 rfl rfl)
theorem dX0_kin_33 : decode cX0_kin 33 = .ok (.istore 4, 2) := dk_54 4 (dk_at dksX0_kin_1 11 rfl rfl)
theorem dX0_kin_35 : decode cX0_kin 35 = .ok (.iload_n 3, 1) := dk_29 (dk_at dksX0_kin_1 13 rfl rfl)
theorem dX0_kin_36 : decode cX0_kin 36 = .ok (.ifCond .ne 8, 3) := dk_154 0 8 (dk_at dksX0_kin_1 14 rfl rfl)
theorem dX0_kin_39 : decode cX0_kin 39 = .ok (.iload 4, 2) := dk_21 4 (dk_at dksX0_kin_1 17 rfl rfl)
theorem dX0_kin_41 : decode cX0_kin 41 = .ok (.goto 32, 3) := dk_167 0 32 (dk_at dksX0_kin_1 19 rfl rfl)
theorem dX0_kin_44 : decode cX0_kin 44 = .ok (.aload_n 0, 1) := dk_42 (dk_at dksX0_kin_1 22 rfl rfl)
theorem dX0_kin_45 : decode cX0_kin 45 = .ok (.getfield 31, 3) := dk_180 0 31 (dk_at dksX0_kin_2 0 rfl rfl)
theorem dX0_kin_48 : decode cX0_kin 48 = .ok (.iload_n 1, 1) := dk_27 (dk_at dksX0_kin_2 3 rfl rfl)
theorem dX0_kin_49 : decode cX0_kin 49 = .ok (.invokevirtual 176, 3) := dk_182 0 176 (dk_at dksX0_kin_2 4 rfl rfl)
theorem dX0_kin_52 : decode cX0_kin 52 = .ok (.aload_n 0, 1) := dk_42 (dk_at dksX0_kin_2 7 rfl rfl)
theorem dX0_kin_53 : decode cX0_kin 53 = .ok (.getfield 31, 3) := dk_180 0 31 (dk_at dksX0_kin_2 8 rfl rfl)
theorem dX0_kin_56 : decode cX0_kin 56 = .ok (.iload_n 2, 1) := dk_28 (dk_at dksX0_kin_2 11 rfl rfl)
theorem dX0_kin_57 : decode cX0_kin 57 = .ok (.invokevirtual 176, 3) := dk_182 0 176 (dk_at dksX0_kin_2 12 rfl rfl)
theorem dX0_kin_60 : decode cX0_kin 60 = .ok (.iadd, 1) := dk_96 (dk_at dksX0_kin_2 15 rfl rfl)
theorem dX0_kin_61 : decode cX0_kin 61 = .ok (.iconst 2, 1) := dk_5 (dk_at dksX0_kin_2 16 rfl rfl)
theorem dX0_kin_62 : decode cX0_kin 62 = .ok (.aload_n 0, 1) := dk_42 (dk_at dksX0_kin_2 17 rfl rfl)
theorem dX0_kin_63 : decode cX0_kin 63 = .ok (.getfield 31, 3) := dk_180 0 31 (dk_at dksX0_kin_2 18 rfl rfl)
theorem dX0_kin_66 : decode cX0_kin 66 = .ok (.iload 4, 2) := dk_21 4 (dk_at dksX0_kin_2 21 rfl rfl)
theorem dX0_kin_68 : decode cX0_kin 68 = .ok (.invokevirtual 176, 3) := dk_182 0 176 (dk_at dksX0_kin_3 0 rfl rfl)
theorem dX0_kin_71 : decode cX0_kin 71 = .ok (.imul, 1) := dk_104 (dk_at dksX0_kin_3 3 rfl rfl)
theorem dX0_kin_72 : decode cX0_kin 72 = .ok (.isub, 1) := dk_100 (dk_at dksX0_kin_3 4 rfl rfl)
theorem dX0_kin_73 : decode cX0_kin 73 = .ok (.ireturn, 1) := dk_172 (dk_at dksX0_kin_3 5 rfl rfl)
abbrev cX0_kinOf : ByteArray := prog_1_method_37_code
def yX0_kinOf : MethodName := ⟨RX0, "kinOf", "(II)I"⟩
def dkwX0_kinOf_1 : List UInt8 := [29, 46, 62, 167, 255, 234, 42, 180, 0, 31, 180, 0, 167, 21, 4, 46, 54, 4, 167, 255, 219, 29, 172]
abbrev dktX0_kinOf_1 : List UInt8 := dkwX0_kinOf_1 ++ []
def dkwX0_kinOf_0 : List UInt8 := [27, 62, 28, 54, 4, 29, 21, 4, 159, 0, 37, 29, 21, 4, 164, 0, 16, 42, 180, 0, 31, 180, 0, 167]
abbrev dktX0_kinOf_0 : List UInt8 := dkwX0_kinOf_0 ++ dktX0_kinOf_1
theorem dksX0_kinOf_0 : cX0_kinOf.data.toList.drop 0 = dktX0_kinOf_0 := by decide +kernel
theorem dksX0_kinOf_1 : cX0_kinOf.data.toList.drop 24 = dktX0_kinOf_1 := dk_seg dksX0_kinOf_0 24 rfl rfl
theorem dX0_kinOf_0 : decode cX0_kinOf 0 = .ok (.iload_n 1, 1) := dk_27 (dk_at dksX0_kinOf_0 0 rfl rfl)
theorem dX0_kinOf_1 : decode cX0_kinOf 1 = .ok (.istore_n 3, 1) := dk_62 (dk_at dksX0_kinOf_0 1 rfl rfl)
theorem dX0_kinOf_2 : decode cX0_kinOf 2 = .ok (.iload_n 2, 1) := dk_28 (dk_at dksX0_kinOf_0 2 rfl rfl)
theorem dX0_kinOf_3 : decode cX0_kinOf 3 = .ok (.istore 4, 2) := dk_54 4 (dk_at dksX0_kinOf_0 3 rfl rfl)
theorem dX0_kinOf_5 : decode cX0_kinOf 5 = .ok (.iload_n 3, 1) := dk_29 (dk_at dksX0_kinOf_0 5 rfl rfl)
theorem dX0_kinOf_6 : decode cX0_kinOf 6 = .ok (.iload 4, 2) := dk_21 4 (dk_at dksX0_kinOf_0 6 rfl rfl)
theorem dX0_kinOf_8 : decode cX0_kinOf 8 = .ok (.if_icmp .eq 37, 3) := dk_159 0 37 (dk_at dksX0_kinOf_0 8 rfl rfl)
theorem dX0_kinOf_11 : decode cX0_kinOf 11 = .ok (.iload_n 3, 1) := dk_29 (dk_at dksX0_kinOf_0 11 rfl rfl)
theorem dX0_kinOf_12 : decode cX0_kinOf 12 = .ok (.iload 4, 2) := dk_21 4 (dk_at dksX0_kinOf_0 12 rfl rfl)
theorem dX0_kinOf_14 : decode cX0_kinOf 14 = .ok (.if_icmp .le 16, 3) := dk_164 0 16 (dk_at dksX0_kinOf_0 14 rfl rfl)
theorem dX0_kinOf_17 : decode cX0_kinOf 17 = .ok (.aload_n 0, 1) := dk_42 (dk_at dksX0_kinOf_0 17 rfl rfl)
theorem dX0_kinOf_18 : decode cX0_kinOf 18 = .ok (.getfield 31, 3) := dk_180 0 31 (dk_at dksX0_kinOf_0 18 rfl rfl)
theorem dX0_kinOf_21 : decode cX0_kinOf 21 = .ok (.getfield 167, 3) := dk_180 0 167 (dk_at dksX0_kinOf_0 21 rfl rfl)
theorem dX0_kinOf_24 : decode cX0_kinOf 24 = .ok (.iload_n 3, 1) := dk_29 (dk_at dksX0_kinOf_1 0 rfl rfl)
theorem dX0_kinOf_25 : decode cX0_kinOf 25 = .ok (.iaload, 1) := dk_46 (dk_at dksX0_kinOf_1 1 rfl rfl)
theorem dX0_kinOf_26 : decode cX0_kinOf 26 = .ok (.istore_n 3, 1) := dk_62 (dk_at dksX0_kinOf_1 2 rfl rfl)
theorem dX0_kinOf_27 : decode cX0_kinOf 27 = .ok (.goto (-22), 3) := dk_167 255 234 (dk_at dksX0_kinOf_1 3 rfl rfl)
theorem dX0_kinOf_30 : decode cX0_kinOf 30 = .ok (.aload_n 0, 1) := dk_42 (dk_at dksX0_kinOf_1 6 rfl rfl)
theorem dX0_kinOf_31 : decode cX0_kinOf 31 = .ok (.getfield 31, 3) := dk_180 0 31 (dk_at dksX0_kinOf_1 7 rfl rfl)
theorem dX0_kinOf_34 : decode cX0_kinOf 34 = .ok (.getfield 167, 3) := dk_180 0 167 (dk_at dksX0_kinOf_1 10 rfl rfl)
theorem dX0_kinOf_37 : decode cX0_kinOf 37 = .ok (.iload 4, 2) := dk_21 4 (dk_at dksX0_kinOf_1 13 rfl rfl)
theorem dX0_kinOf_39 : decode cX0_kinOf 39 = .ok (.iaload, 1) := dk_46 (dk_at dksX0_kinOf_1 15 rfl rfl)
theorem dX0_kinOf_40 : decode cX0_kinOf 40 = .ok (.istore 4, 2) := dk_54 4 (dk_at dksX0_kinOf_1 16 rfl rfl)
theorem dX0_kinOf_42 : decode cX0_kinOf 42 = .ok (.goto (-37), 3) := dk_167 255 219 (dk_at dksX0_kinOf_1 18 rfl rfl)
theorem dX0_kinOf_45 : decode cX0_kinOf 45 = .ok (.iload_n 3, 1) := dk_29 (dk_at dksX0_kinOf_1 21 rfl rfl)
theorem dX0_kinOf_46 : decode cX0_kinOf 46 = .ok (.ireturn, 1) := dk_172 (dk_at dksX0_kinOf_1 22 rfl rfl)
abbrev cX0_thumb : ByteArray := prog_1_method_40_code
def yX0_thumb : MethodName := ⟨RX0, "thumb", "(II)I"⟩
def dkwX0_thumb_4 : List UInt8 := [180, 0, 167, 29, 46, 62, 167, 255, 192, 2, 172]
abbrev dktX0_thumb_4 : List UInt8 := dkwX0_thumb_4 ++ []
def dkwX0_thumb_3 : List UInt8 := [21, 4, 182, 0, 255, 154, 0, 13, 42, 180, 0, 31, 180, 0, 170, 29, 46, 172, 42, 180, 0, 31]
abbrev dktX0_thumb_3 : List UInt8 := dkwX0_thumb_3 ++ dktX0_thumb_4
def dkwX0_thumb_2 : List UInt8 := [180, 0, 20, 180, 0, 147, 4, 100, 21, 4, 100, 54, 4, 42, 42, 180, 0, 31, 180, 0, 167, 29, 46]
abbrev dktX0_thumb_2 : List UInt8 := dkwX0_thumb_2 ++ dktX0_thumb_3
def dkwX0_thumb_1 : List UInt8 := [154, 0, 6, 16, 254, 172, 27, 62, 28, 54, 4, 42, 180, 0, 31, 180, 0, 167, 29, 46, 155, 0, 58, 42]
abbrev dktX0_thumb_1 : List UInt8 := dkwX0_thumb_1 ++ dktX0_thumb_2
def dkwX0_thumb_0 : List UInt8 := [42, 27, 182, 0, 160, 153, 0, 20, 42, 28, 182, 0, 229, 153, 0, 12, 42, 27, 28, 182, 0, 255]
abbrev dktX0_thumb_0 : List UInt8 := dkwX0_thumb_0 ++ dktX0_thumb_1
theorem dksX0_thumb_0 : cX0_thumb.data.toList.drop 0 = dktX0_thumb_0 := by decide +kernel
theorem dksX0_thumb_1 : cX0_thumb.data.toList.drop 22 = dktX0_thumb_1 := dk_seg dksX0_thumb_0 22 rfl rfl
theorem dksX0_thumb_2 : cX0_thumb.data.toList.drop 46 = dktX0_thumb_2 := dk_seg dksX0_thumb_1 24 rfl rfl
theorem dksX0_thumb_3 : cX0_thumb.data.toList.drop 69 = dktX0_thumb_3 := dk_seg dksX0_thumb_2 23 rfl rfl
theorem dksX0_thumb_4 : cX0_thumb.data.toList.drop 91 = dktX0_thumb_4 := dk_seg dksX0_thumb_3 22 rfl rfl
theorem dX0_thumb_0 : decode cX0_thumb 0 = .ok (.aload_n 0, 1) := dk_42 (dk_at dksX0_thumb_0 0 rfl rfl)
theorem dX0_thumb_1 : decode cX0_thumb 1 = .ok (.iload_n 1, 1) := dk_27 (dk_at dksX0_thumb_0 1 rfl rfl)
theorem dX0_thumb_2 : decode cX0_thumb 2 = .ok (.invokevirtual 160, 3) := dk_182 0 160 (dk_at dksX0_thumb_0 2 rfl rfl)
theorem dX0_thumb_5 : decode cX0_thumb 5 = .ok (.ifCond .eq 20, 3) := dk_153 0 20 (dk_at dksX0_thumb_0 5 rfl rfl)
theorem dX0_thumb_8 : decode cX0_thumb 8 = .ok (.aload_n 0, 1) := dk_42 (dk_at dksX0_thumb_0 8 rfl rfl)
theorem dX0_thumb_9 : decode cX0_thumb 9 = .ok (.iload_n 2, 1) := dk_28 (dk_at dksX0_thumb_0 9 rfl rfl)
theorem dX0_thumb_10 : decode cX0_thumb 10 = .ok (.invokevirtual 229, 3) := dk_182 0 229 (dk_at dksX0_thumb_0 10 rfl rfl)
theorem dX0_thumb_13 : decode cX0_thumb 13 = .ok (.ifCond .eq 12, 3) := dk_153 0 12 (dk_at dksX0_thumb_0 13 rfl rfl)
theorem dX0_thumb_16 : decode cX0_thumb 16 = .ok (.aload_n 0, 1) := dk_42 (dk_at dksX0_thumb_0 16 rfl rfl)
theorem dX0_thumb_17 : decode cX0_thumb 17 = .ok (.iload_n 1, 1) := dk_27 (dk_at dksX0_thumb_0 17 rfl rfl)
theorem dX0_thumb_18 : decode cX0_thumb 18 = .ok (.iload_n 2, 1) := dk_28 (dk_at dksX0_thumb_0 18 rfl rfl)
theorem dX0_thumb_19 : decode cX0_thumb 19 = .ok (.invokevirtual 255, 3) := dk_182 0 255 (dk_at dksX0_thumb_0 19 rfl rfl)
theorem dX0_thumb_22 : decode cX0_thumb 22 = .ok (.ifCond .ne 6, 3) := dk_154 0 6 (dk_at dksX0_thumb_1 0 rfl rfl)
theorem dX0_thumb_25 : decode cX0_thumb 25 = .ok (.bipush (-2), 2) := dk_16 254 (dk_at dksX0_thumb_1 3 rfl rfl)
theorem dX0_thumb_27 : decode cX0_thumb 27 = .ok (.ireturn, 1) := dk_172 (dk_at dksX0_thumb_1 5 rfl rfl)
theorem dX0_thumb_28 : decode cX0_thumb 28 = .ok (.iload_n 1, 1) := dk_27 (dk_at dksX0_thumb_1 6 rfl rfl)
theorem dX0_thumb_29 : decode cX0_thumb 29 = .ok (.istore_n 3, 1) := dk_62 (dk_at dksX0_thumb_1 7 rfl rfl)
theorem dX0_thumb_30 : decode cX0_thumb 30 = .ok (.iload_n 2, 1) := dk_28 (dk_at dksX0_thumb_1 8 rfl rfl)
theorem dX0_thumb_31 : decode cX0_thumb 31 = .ok (.istore 4, 2) := dk_54 4 (dk_at dksX0_thumb_1 9 rfl rfl)
theorem dX0_thumb_33 : decode cX0_thumb 33 = .ok (.aload_n 0, 1) := dk_42 (dk_at dksX0_thumb_1 11 rfl rfl)
theorem dX0_thumb_34 : decode cX0_thumb 34 = .ok (.getfield 31, 3) := dk_180 0 31 (dk_at dksX0_thumb_1 12 rfl rfl)
theorem dX0_thumb_37 : decode cX0_thumb 37 = .ok (.getfield 167, 3) := dk_180 0 167 (dk_at dksX0_thumb_1 15 rfl rfl)
theorem dX0_thumb_40 : decode cX0_thumb 40 = .ok (.iload_n 3, 1) := dk_29 (dk_at dksX0_thumb_1 18 rfl rfl)
theorem dX0_thumb_41 : decode cX0_thumb 41 = .ok (.iaload, 1) := dk_46 (dk_at dksX0_thumb_1 19 rfl rfl)
theorem dX0_thumb_42 : decode cX0_thumb 42 = .ok (.ifCond .lt 58, 3) := dk_155 0 58 (dk_at dksX0_thumb_1 20 rfl rfl)
theorem dX0_thumb_45 : decode cX0_thumb 45 = .ok (.aload_n 0, 1) := dk_42 (dk_at dksX0_thumb_1 23 rfl rfl)
theorem dX0_thumb_46 : decode cX0_thumb 46 = .ok (.getfield 20, 3) := dk_180 0 20 (dk_at dksX0_thumb_2 0 rfl rfl)
theorem dX0_thumb_49 : decode cX0_thumb 49 = .ok (.getfield 147, 3) := dk_180 0 147 (dk_at dksX0_thumb_2 3 rfl rfl)
theorem dX0_thumb_52 : decode cX0_thumb 52 = .ok (.iconst 1, 1) := dk_4 (dk_at dksX0_thumb_2 6 rfl rfl)
theorem dX0_thumb_53 : decode cX0_thumb 53 = .ok (.isub, 1) := dk_100 (dk_at dksX0_thumb_2 7 rfl rfl)
theorem dX0_thumb_54 : decode cX0_thumb 54 = .ok (.iload 4, 2) := dk_21 4 (dk_at dksX0_thumb_2 8 rfl rfl)
theorem dX0_thumb_56 : decode cX0_thumb 56 = .ok (.isub, 1) := dk_100 (dk_at dksX0_thumb_2 10 rfl rfl)
theorem dX0_thumb_57 : decode cX0_thumb 57 = .ok (.istore 4, 2) := dk_54 4 (dk_at dksX0_thumb_2 11 rfl rfl)
theorem dX0_thumb_59 : decode cX0_thumb 59 = .ok (.aload_n 0, 1) := dk_42 (dk_at dksX0_thumb_2 13 rfl rfl)
theorem dX0_thumb_60 : decode cX0_thumb 60 = .ok (.aload_n 0, 1) := dk_42 (dk_at dksX0_thumb_2 14 rfl rfl)
theorem dX0_thumb_61 : decode cX0_thumb 61 = .ok (.getfield 31, 3) := dk_180 0 31 (dk_at dksX0_thumb_2 15 rfl rfl)
theorem dX0_thumb_64 : decode cX0_thumb 64 = .ok (.getfield 167, 3) := dk_180 0 167 (dk_at dksX0_thumb_2 18 rfl rfl)
theorem dX0_thumb_67 : decode cX0_thumb 67 = .ok (.iload_n 3, 1) := dk_29 (dk_at dksX0_thumb_2 21 rfl rfl)
theorem dX0_thumb_68 : decode cX0_thumb 68 = .ok (.iaload, 1) := dk_46 (dk_at dksX0_thumb_2 22 rfl rfl)
theorem dX0_thumb_69 : decode cX0_thumb 69 = .ok (.iload 4, 2) := dk_21 4 (dk_at dksX0_thumb_3 0 rfl rfl)
theorem dX0_thumb_71 : decode cX0_thumb 71 = .ok (.invokevirtual 255, 3) := dk_182 0 255 (dk_at dksX0_thumb_3 2 rfl rfl)
theorem dX0_thumb_74 : decode cX0_thumb 74 = .ok (.ifCond .ne 13, 3) := dk_154 0 13 (dk_at dksX0_thumb_3 5 rfl rfl)
theorem dX0_thumb_77 : decode cX0_thumb 77 = .ok (.aload_n 0, 1) := dk_42 (dk_at dksX0_thumb_3 8 rfl rfl)
theorem dX0_thumb_78 : decode cX0_thumb 78 = .ok (.getfield 31, 3) := dk_180 0 31 (dk_at dksX0_thumb_3 9 rfl rfl)
theorem dX0_thumb_81 : decode cX0_thumb 81 = .ok (.getfield 170, 3) := dk_180 0 170 (dk_at dksX0_thumb_3 12 rfl rfl)
theorem dX0_thumb_84 : decode cX0_thumb 84 = .ok (.iload_n 3, 1) := dk_29 (dk_at dksX0_thumb_3 15 rfl rfl)
theorem dX0_thumb_85 : decode cX0_thumb 85 = .ok (.iaload, 1) := dk_46 (dk_at dksX0_thumb_3 16 rfl rfl)
theorem dX0_thumb_86 : decode cX0_thumb 86 = .ok (.ireturn, 1) := dk_172 (dk_at dksX0_thumb_3 17 rfl rfl)
theorem dX0_thumb_87 : decode cX0_thumb 87 = .ok (.aload_n 0, 1) := dk_42 (dk_at dksX0_thumb_3 18 rfl rfl)
theorem dX0_thumb_88 : decode cX0_thumb 88 = .ok (.getfield 31, 3) := dk_180 0 31 (dk_at dksX0_thumb_3 19 rfl rfl)
theorem dX0_thumb_91 : decode cX0_thumb 91 = .ok (.getfield 167, 3) := dk_180 0 167 (dk_at dksX0_thumb_4 0 rfl rfl)
theorem dX0_thumb_94 : decode cX0_thumb 94 = .ok (.iload_n 3, 1) := dk_29 (dk_at dksX0_thumb_4 3 rfl rfl)
theorem dX0_thumb_95 : decode cX0_thumb 95 = .ok (.iaload, 1) := dk_46 (dk_at dksX0_thumb_4 4 rfl rfl)
theorem dX0_thumb_96 : decode cX0_thumb 96 = .ok (.istore_n 3, 1) := dk_62 (dk_at dksX0_thumb_4 5 rfl rfl)
theorem dX0_thumb_97 : decode cX0_thumb 97 = .ok (.goto (-64), 3) := dk_167 255 192 (dk_at dksX0_thumb_4 6 rfl rfl)
theorem dX0_thumb_100 : decode cX0_thumb 100 = .ok (.iconst (-1), 1) := dk_2 (dk_at dksX0_thumb_4 9 rfl rfl)
theorem dX0_thumb_101 : decode cX0_thumb 101 = .ok (.ireturn, 1) := dk_172 (dk_at dksX0_thumb_4 10 rfl rfl)
abbrev cX0_hasMark : ByteArray := prog_1_method_39_code
def yX0_hasMark : MethodName := ⟨RX0, "hasMark", "(II)Z"⟩
def dkwX0_hasMark_0 : List UInt8 := [42, 180, 0, 31, 180, 0, 164, 27, 46, 28, 122, 4, 126, 4, 160, 0, 7, 4, 167, 0, 4, 3, 172]
abbrev dktX0_hasMark_0 : List UInt8 := dkwX0_hasMark_0 ++ []
theorem dksX0_hasMark_0 : cX0_hasMark.data.toList.drop 0 = dktX0_hasMark_0 := by decide +kernel
theorem dX0_hasMark_0 : decode cX0_hasMark 0 = .ok (.aload_n 0, 1) := dk_42 (dk_at dksX0_hasMark_0 0 rfl rfl)
theorem dX0_hasMark_1 : decode cX0_hasMark 1 = .ok (.getfield 31, 3) := dk_180 0 31 (dk_at dksX0_hasMark_0 1 rfl rfl)
theorem dX0_hasMark_4 : decode cX0_hasMark 4 = .ok (.getfield 164, 3) := dk_180 0 164 (dk_at dksX0_hasMark_0 4 rfl rfl)
theorem dX0_hasMark_7 : decode cX0_hasMark 7 = .ok (.iload_n 1, 1) := dk_27 (dk_at dksX0_hasMark_0 7 rfl rfl)
theorem dX0_hasMark_8 : decode cX0_hasMark 8 = .ok (.iaload, 1) := dk_46 (dk_at dksX0_hasMark_0 8 rfl rfl)
theorem dX0_hasMark_9 : decode cX0_hasMark 9 = .ok (.iload_n 2, 1) := dk_28 (dk_at dksX0_hasMark_0 9 rfl rfl)
theorem dX0_hasMark_10 : decode cX0_hasMark 10 = .ok (.ishr, 1) := dk_122 (dk_at dksX0_hasMark_0 10 rfl rfl)
theorem dX0_hasMark_11 : decode cX0_hasMark 11 = .ok (.iconst 1, 1) := dk_4 (dk_at dksX0_hasMark_0 11 rfl rfl)
theorem dX0_hasMark_12 : decode cX0_hasMark 12 = .ok (.iand, 1) := dk_126 (dk_at dksX0_hasMark_0 12 rfl rfl)
theorem dX0_hasMark_13 : decode cX0_hasMark 13 = .ok (.iconst 1, 1) := dk_4 (dk_at dksX0_hasMark_0 13 rfl rfl)
theorem dX0_hasMark_14 : decode cX0_hasMark 14 = .ok (.if_icmp .ne 7, 3) := dk_160 0 7 (dk_at dksX0_hasMark_0 14 rfl rfl)
theorem dX0_hasMark_17 : decode cX0_hasMark 17 = .ok (.iconst 1, 1) := dk_4 (dk_at dksX0_hasMark_0 17 rfl rfl)
theorem dX0_hasMark_18 : decode cX0_hasMark 18 = .ok (.goto 4, 3) := dk_167 0 4 (dk_at dksX0_hasMark_0 18 rfl rfl)
theorem dX0_hasMark_21 : decode cX0_hasMark 21 = .ok (.iconst 0, 1) := dk_3 (dk_at dksX0_hasMark_0 21 rfl rfl)
theorem dX0_hasMark_22 : decode cX0_hasMark 22 = .ok (.ireturn, 1) := dk_172 (dk_at dksX0_hasMark_0 22 rfl rfl)
abbrev cX0_share : ByteArray := prog_1_method_42_code
def yX0_share : MethodName := ⟨RX0, "share", "(III)I"⟩
def dkwX0_share_1 : List UInt8 := [184, 0, 150, 154, 0, 5, 2, 172, 42, 27, 28, 182, 1, 3, 42, 180, 0, 49, 29, 46, 172]
abbrev dktX0_share_1 : List UInt8 := dkwX0_share_1 ++ []
def dkwX0_share_0 : List UInt8 := [42, 27, 182, 0, 192, 153, 0, 23, 28, 4, 7, 184, 0, 150, 153, 0, 14, 29, 3, 28, 4, 100]
abbrev dktX0_share_0 : List UInt8 := dkwX0_share_0 ++ dktX0_share_1
theorem dksX0_share_0 : cX0_share.data.toList.drop 0 = dktX0_share_0 := by decide +kernel
theorem dksX0_share_1 : cX0_share.data.toList.drop 22 = dktX0_share_1 := dk_seg dksX0_share_0 22 rfl rfl
theorem dX0_share_0 : decode cX0_share 0 = .ok (.aload_n 0, 1) := dk_42 (dk_at dksX0_share_0 0 rfl rfl)
theorem dX0_share_1 : decode cX0_share 1 = .ok (.iload_n 1, 1) := dk_27 (dk_at dksX0_share_0 1 rfl rfl)
theorem dX0_share_2 : decode cX0_share 2 = .ok (.invokevirtual 192, 3) := dk_182 0 192 (dk_at dksX0_share_0 2 rfl rfl)
theorem dX0_share_5 : decode cX0_share 5 = .ok (.ifCond .eq 23, 3) := dk_153 0 23 (dk_at dksX0_share_0 5 rfl rfl)
theorem dX0_share_8 : decode cX0_share 8 = .ok (.iload_n 2, 1) := dk_28 (dk_at dksX0_share_0 8 rfl rfl)
theorem dX0_share_9 : decode cX0_share 9 = .ok (.iconst 1, 1) := dk_4 (dk_at dksX0_share_0 9 rfl rfl)
theorem dX0_share_10 : decode cX0_share 10 = .ok (.iconst 4, 1) := dk_7 (dk_at dksX0_share_0 10 rfl rfl)
theorem dX0_share_11 : decode cX0_share 11 = .ok (.invokestatic 150, 3) := dk_184 0 150 (dk_at dksX0_share_0 11 rfl rfl)
theorem dX0_share_14 : decode cX0_share 14 = .ok (.ifCond .eq 14, 3) := dk_153 0 14 (dk_at dksX0_share_0 14 rfl rfl)
theorem dX0_share_17 : decode cX0_share 17 = .ok (.iload_n 3, 1) := dk_29 (dk_at dksX0_share_0 17 rfl rfl)
theorem dX0_share_18 : decode cX0_share 18 = .ok (.iconst 0, 1) := dk_3 (dk_at dksX0_share_0 18 rfl rfl)
theorem dX0_share_19 : decode cX0_share 19 = .ok (.iload_n 2, 1) := dk_28 (dk_at dksX0_share_0 19 rfl rfl)
theorem dX0_share_20 : decode cX0_share 20 = .ok (.iconst 1, 1) := dk_4 (dk_at dksX0_share_0 20 rfl rfl)
theorem dX0_share_21 : decode cX0_share 21 = .ok (.isub, 1) := dk_100 (dk_at dksX0_share_0 21 rfl rfl)
theorem dX0_share_22 : decode cX0_share 22 = .ok (.invokestatic 150, 3) := dk_184 0 150 (dk_at dksX0_share_1 0 rfl rfl)
theorem dX0_share_25 : decode cX0_share 25 = .ok (.ifCond .ne 5, 3) := dk_154 0 5 (dk_at dksX0_share_1 3 rfl rfl)
theorem dX0_share_28 : decode cX0_share 28 = .ok (.iconst (-1), 1) := dk_2 (dk_at dksX0_share_1 6 rfl rfl)
theorem dX0_share_29 : decode cX0_share 29 = .ok (.ireturn, 1) := dk_172 (dk_at dksX0_share_1 7 rfl rfl)
theorem dX0_share_30 : decode cX0_share 30 = .ok (.aload_n 0, 1) := dk_42 (dk_at dksX0_share_1 8 rfl rfl)
theorem dX0_share_31 : decode cX0_share 31 = .ok (.iload_n 1, 1) := dk_27 (dk_at dksX0_share_1 9 rfl rfl)
theorem dX0_share_32 : decode cX0_share 32 = .ok (.iload_n 2, 1) := dk_28 (dk_at dksX0_share_1 10 rfl rfl)
theorem dX0_share_33 : decode cX0_share 33 = .ok (.invokevirtual 259, 3) := dk_182 1 3 (dk_at dksX0_share_1 11 rfl rfl)
theorem dX0_share_36 : decode cX0_share 36 = .ok (.aload_n 0, 1) := dk_42 (dk_at dksX0_share_1 14 rfl rfl)
theorem dX0_share_37 : decode cX0_share 37 = .ok (.getfield 49, 3) := dk_180 0 49 (dk_at dksX0_share_1 15 rfl rfl)
theorem dX0_share_40 : decode cX0_share 40 = .ok (.iload_n 3, 1) := dk_29 (dk_at dksX0_share_1 18 rfl rfl)
theorem dX0_share_41 : decode cX0_share 41 = .ok (.iaload, 1) := dk_46 (dk_at dksX0_share_1 19 rfl rfl)
theorem dX0_share_42 : decode cX0_share 42 = .ok (.ireturn, 1) := dk_172 (dk_at dksX0_share_1 20 rfl rfl)
abbrev cX0_layShares : ByteArray := prog_1_method_41_code
def yX0_layShares : MethodName := ⟨RX0, "layShares", "(II)V"⟩
def dkwX0_layShares_10 : List UInt8 := [167, 255, 181, 177]
abbrev dktX0_layShares_10 : List UInt8 := dkwX0_layShares_10 ++ []
def dkwX0_layShares_9 : List UInt8 := [42, 180, 0, 49, 21, 5, 92, 46, 4, 96, 79, 42, 180, 0, 52, 21, 5, 2, 79, 132, 4, 255]
abbrev dktX0_layShares_9 : List UInt8 := dkwX0_layShares_9 ++ dktX0_layShares_10
def dkwX0_layShares_8 : List UInt8 := [180, 0, 52, 21, 5, 46, 164, 0, 8, 21, 6, 167, 0, 5, 21, 5, 54, 5, 132, 6, 1, 167, 255, 221]
abbrev dktX0_layShares_8 : List UInt8 := dkwX0_layShares_8 ++ dktX0_layShares_9
def dkwX0_layShares_7 : List UInt8 := [158, 0, 72, 3, 54, 5, 4, 54, 6, 21, 6, 28, 162, 0, 35, 42, 180, 0, 52, 21, 6, 46, 42]
abbrev dktX0_layShares_7 : List UInt8 := dkwX0_layShares_7 ++ dktX0_layShares_8
def dkwX0_layShares_6 : List UInt8 := [21, 4, 42, 180, 0, 49, 21, 5, 46, 100, 54, 4, 132, 5, 1, 167, 255, 181, 21, 4, 158, 0, 76, 29]
abbrev dktX0_layShares_6 : List UInt8 := dkwX0_layShares_6 ++ dktX0_layShares_7
def dkwX0_layShares_5 : List UInt8 := [21, 5, 29, 154, 0, 7, 3, 167, 0, 15, 16, 100, 42, 180, 0, 46, 21, 5, 46, 104, 29, 112, 79]
abbrev dktX0_layShares_5 : List UInt8 := dkwX0_layShares_5 ++ dktX0_layShares_6
def dkwX0_layShares_4 : List UInt8 := [154, 0, 7, 3, 167, 0, 15, 16, 100, 42, 180, 0, 46, 21, 5, 46, 104, 29, 108, 79, 42, 180, 0, 52]
abbrev dktX0_layShares_4 : List UInt8 := dkwX0_layShares_4 ++ dktX0_layShares_5
def dkwX0_layShares_3 : List UInt8 := [79, 132, 5, 1, 167, 255, 215, 3, 54, 5, 21, 5, 7, 162, 0, 75, 42, 180, 0, 49, 21, 5, 29]
abbrev dktX0_layShares_3 : List UInt8 := dkwX0_layShares_3 ++ dktX0_layShares_4
def dkwX0_layShares_2 : List UInt8 := [180, 0, 46, 21, 5, 28, 104, 42, 180, 0, 20, 180, 0, 147, 108, 92, 46, 27, 21, 5, 122, 4, 126, 96]
abbrev dktX0_layShares_2 : List UInt8 := dkwX0_layShares_2 ++ dktX0_layShares_3
def dkwX0_layShares_1 : List UInt8 := [3, 79, 132, 5, 1, 167, 255, 239, 3, 54, 5, 21, 5, 42, 180, 0, 20, 180, 0, 147, 162, 0, 35, 42]
abbrev dktX0_layShares_1 : List UInt8 := dkwX0_layShares_1 ++ dktX0_layShares_2
def dkwX0_layShares_0 : List UInt8 := [27, 184, 0, 240, 62, 16, 100, 54, 4, 3, 54, 5, 21, 5, 7, 162, 0, 17, 42, 180, 0, 46, 21, 5]
abbrev dktX0_layShares_0 : List UInt8 := dkwX0_layShares_0 ++ dktX0_layShares_1
theorem dksX0_layShares_0 : cX0_layShares.data.toList.drop 0 = dktX0_layShares_0 := by decide +kernel
theorem dksX0_layShares_1 : cX0_layShares.data.toList.drop 24 = dktX0_layShares_1 := dk_seg dksX0_layShares_0 24 rfl rfl
theorem dksX0_layShares_2 : cX0_layShares.data.toList.drop 48 = dktX0_layShares_2 := dk_seg dksX0_layShares_1 24 rfl rfl
theorem dksX0_layShares_3 : cX0_layShares.data.toList.drop 72 = dktX0_layShares_3 := dk_seg dksX0_layShares_2 24 rfl rfl
theorem dksX0_layShares_4 : cX0_layShares.data.toList.drop 95 = dktX0_layShares_4 := dk_seg dksX0_layShares_3 23 rfl rfl
theorem dksX0_layShares_5 : cX0_layShares.data.toList.drop 119 = dktX0_layShares_5 := dk_seg dksX0_layShares_4 24 rfl rfl
theorem dksX0_layShares_6 : cX0_layShares.data.toList.drop 142 = dktX0_layShares_6 := dk_seg dksX0_layShares_5 23 rfl rfl
theorem dksX0_layShares_7 : cX0_layShares.data.toList.drop 166 = dktX0_layShares_7 := dk_seg dksX0_layShares_6 24 rfl rfl
theorem dksX0_layShares_8 : cX0_layShares.data.toList.drop 189 = dktX0_layShares_8 := dk_seg dksX0_layShares_7 23 rfl rfl
theorem dksX0_layShares_9 : cX0_layShares.data.toList.drop 213 = dktX0_layShares_9 := dk_seg dksX0_layShares_8 24 rfl rfl
theorem dksX0_layShares_10 : cX0_layShares.data.toList.drop 235 = dktX0_layShares_10 := dk_seg dksX0_layShares_9 22 rfl rfl
theorem dX0_layShares_0 : decode cX0_layShares 0 = .ok (.iload_n 1, 1) := dk_27 (dk_at dksX0_layShares_0 0 rfl rfl)
theorem dX0_layShares_1 : decode cX0_layShares 1 = .ok (.invokestatic 240, 3) := dk_184 0 240 (dk_at dksX0_layShares_0 1 rfl rfl)
theorem dX0_layShares_4 : decode cX0_layShares 4 = .ok (.istore_n 3, 1) := dk_62 (dk_at dksX0_layShares_0 4 rfl rfl)
theorem dX0_layShares_5 : decode cX0_layShares 5 = .ok (.bipush 100, 2) := dk_16 100 (dk_at dksX0_layShares_0 5 rfl rfl)
theorem dX0_layShares_7 : decode cX0_layShares 7 = .ok (.istore 4, 2) := dk_54 4 (dk_at dksX0_layShares_0 7 rfl rfl)
theorem dX0_layShares_9 : decode cX0_layShares 9 = .ok (.iconst 0, 1) := dk_3 (dk_at dksX0_layShares_0 9 rfl rfl)
theorem dX0_layShares_10 : decode cX0_layShares 10 = .ok (.istore 5, 2) := dk_54 5 (dk_at dksX0_layShares_0 10 rfl rfl)
theorem dX0_layShares_12 : decode cX0_layShares 12 = .ok (.iload 5, 2) := dk_21 5 (dk_at dksX0_layShares_0 12 rfl rfl)
theorem dX0_layShares_14 : decode cX0_layShares 14 = .ok (.iconst 4, 1) := dk_7 (dk_at dksX0_layShares_0 14 rfl rfl)
theorem dX0_layShares_15 : decode cX0_layShares 15 = .ok (.if_icmp .ge 17, 3) := dk_162 0 17 (dk_at dksX0_layShares_0 15 rfl rfl)
theorem dX0_layShares_18 : decode cX0_layShares 18 = .ok (.aload_n 0, 1) := dk_42 (dk_at dksX0_layShares_0 18 rfl rfl)
theorem dX0_layShares_19 : decode cX0_layShares 19 = .ok (.getfield 46, 3) := dk_180 0 46 (dk_at dksX0_layShares_0 19 rfl rfl)
theorem dX0_layShares_22 : decode cX0_layShares 22 = .ok (.iload 5, 2) := dk_21 5 (dk_at dksX0_layShares_0 22 rfl rfl)
theorem dX0_layShares_24 : decode cX0_layShares 24 = .ok (.iconst 0, 1) := dk_3 (dk_at dksX0_layShares_1 0 rfl rfl)
theorem dX0_layShares_25 : decode cX0_layShares 25 = .ok (.iastore, 1) := dk_79 (dk_at dksX0_layShares_1 1 rfl rfl)
theorem dX0_layShares_26 : decode cX0_layShares 26 = .ok (.iinc 5 1, 3) := dk_132 5 1 (dk_at dksX0_layShares_1 2 rfl rfl)
theorem dX0_layShares_29 : decode cX0_layShares 29 = .ok (.goto (-17), 3) := dk_167 255 239 (dk_at dksX0_layShares_1 5 rfl rfl)
theorem dX0_layShares_32 : decode cX0_layShares 32 = .ok (.iconst 0, 1) := dk_3 (dk_at dksX0_layShares_1 8 rfl rfl)
theorem dX0_layShares_33 : decode cX0_layShares 33 = .ok (.istore 5, 2) := dk_54 5 (dk_at dksX0_layShares_1 9 rfl rfl)
theorem dX0_layShares_35 : decode cX0_layShares 35 = .ok (.iload 5, 2) := dk_21 5 (dk_at dksX0_layShares_1 11 rfl rfl)
theorem dX0_layShares_37 : decode cX0_layShares 37 = .ok (.aload_n 0, 1) := dk_42 (dk_at dksX0_layShares_1 13 rfl rfl)
theorem dX0_layShares_38 : decode cX0_layShares 38 = .ok (.getfield 20, 3) := dk_180 0 20 (dk_at dksX0_layShares_1 14 rfl rfl)
theorem dX0_layShares_41 : decode cX0_layShares 41 = .ok (.getfield 147, 3) := dk_180 0 147 (dk_at dksX0_layShares_1 17 rfl rfl)
theorem dX0_layShares_44 : decode cX0_layShares 44 = .ok (.if_icmp .ge 35, 3) := dk_162 0 35 (dk_at dksX0_layShares_1 20 rfl rfl)
theorem dX0_layShares_47 : decode cX0_layShares 47 = .ok (.aload_n 0, 1) := dk_42 (dk_at dksX0_layShares_1 23 rfl rfl)
theorem dX0_layShares_48 : decode cX0_layShares 48 = .ok (.getfield 46, 3) := dk_180 0 46 (dk_at dksX0_layShares_2 0 rfl rfl)
theorem dX0_layShares_51 : decode cX0_layShares 51 = .ok (.iload 5, 2) := dk_21 5 (dk_at dksX0_layShares_2 3 rfl rfl)
theorem dX0_layShares_53 : decode cX0_layShares 53 = .ok (.iload_n 2, 1) := dk_28 (dk_at dksX0_layShares_2 5 rfl rfl)
theorem dX0_layShares_54 : decode cX0_layShares 54 = .ok (.imul, 1) := dk_104 (dk_at dksX0_layShares_2 6 rfl rfl)
theorem dX0_layShares_55 : decode cX0_layShares 55 = .ok (.aload_n 0, 1) := dk_42 (dk_at dksX0_layShares_2 7 rfl rfl)
theorem dX0_layShares_56 : decode cX0_layShares 56 = .ok (.getfield 20, 3) := dk_180 0 20 (dk_at dksX0_layShares_2 8 rfl rfl)
theorem dX0_layShares_59 : decode cX0_layShares 59 = .ok (.getfield 147, 3) := dk_180 0 147 (dk_at dksX0_layShares_2 11 rfl rfl)
theorem dX0_layShares_62 : decode cX0_layShares 62 = .ok (.idiv, 1) := dk_108 (dk_at dksX0_layShares_2 14 rfl rfl)
theorem dX0_layShares_63 : decode cX0_layShares 63 = .ok (.dup2, 1) := dk_92 (dk_at dksX0_layShares_2 15 rfl rfl)
theorem dX0_layShares_64 : decode cX0_layShares 64 = .ok (.iaload, 1) := dk_46 (dk_at dksX0_layShares_2 16 rfl rfl)
theorem dX0_layShares_65 : decode cX0_layShares 65 = .ok (.iload_n 1, 1) := dk_27 (dk_at dksX0_layShares_2 17 rfl rfl)
theorem dX0_layShares_66 : decode cX0_layShares 66 = .ok (.iload 5, 2) := dk_21 5 (dk_at dksX0_layShares_2 18 rfl rfl)
theorem dX0_layShares_68 : decode cX0_layShares 68 = .ok (.ishr, 1) := dk_122 (dk_at dksX0_layShares_2 20 rfl rfl)
theorem dX0_layShares_69 : decode cX0_layShares 69 = .ok (.iconst 1, 1) := dk_4 (dk_at dksX0_layShares_2 21 rfl rfl)
theorem dX0_layShares_70 : decode cX0_layShares 70 = .ok (.iand, 1) := dk_126 (dk_at dksX0_layShares_2 22 rfl rfl)
theorem dX0_layShares_71 : decode cX0_layShares 71 = .ok (.iadd, 1) := dk_96 (dk_at dksX0_layShares_2 23 rfl rfl)
theorem dX0_layShares_72 : decode cX0_layShares 72 = .ok (.iastore, 1) := dk_79 (dk_at dksX0_layShares_3 0 rfl rfl)
theorem dX0_layShares_73 : decode cX0_layShares 73 = .ok (.iinc 5 1, 3) := dk_132 5 1 (dk_at dksX0_layShares_3 1 rfl rfl)
theorem dX0_layShares_76 : decode cX0_layShares 76 = .ok (.goto (-41), 3) := dk_167 255 215 (dk_at dksX0_layShares_3 4 rfl rfl)
theorem dX0_layShares_79 : decode cX0_layShares 79 = .ok (.iconst 0, 1) := dk_3 (dk_at dksX0_layShares_3 7 rfl rfl)
theorem dX0_layShares_80 : decode cX0_layShares 80 = .ok (.istore 5, 2) := dk_54 5 (dk_at dksX0_layShares_3 8 rfl rfl)
theorem dX0_layShares_82 : decode cX0_layShares 82 = .ok (.iload 5, 2) := dk_21 5 (dk_at dksX0_layShares_3 10 rfl rfl)
theorem dX0_layShares_84 : decode cX0_layShares 84 = .ok (.iconst 4, 1) := dk_7 (dk_at dksX0_layShares_3 12 rfl rfl)
theorem dX0_layShares_85 : decode cX0_layShares 85 = .ok (.if_icmp .ge 75, 3) := dk_162 0 75 (dk_at dksX0_layShares_3 13 rfl rfl)
theorem dX0_layShares_88 : decode cX0_layShares 88 = .ok (.aload_n 0, 1) := dk_42 (dk_at dksX0_layShares_3 16 rfl rfl)
theorem dX0_layShares_89 : decode cX0_layShares 89 = .ok (.getfield 49, 3) := dk_180 0 49 (dk_at dksX0_layShares_3 17 rfl rfl)
theorem dX0_layShares_92 : decode cX0_layShares 92 = .ok (.iload 5, 2) := dk_21 5 (dk_at dksX0_layShares_3 20 rfl rfl)
theorem dX0_layShares_94 : decode cX0_layShares 94 = .ok (.iload_n 3, 1) := dk_29 (dk_at dksX0_layShares_3 22 rfl rfl)
theorem dX0_layShares_95 : decode cX0_layShares 95 = .ok (.ifCond .ne 7, 3) := dk_154 0 7 (dk_at dksX0_layShares_4 0 rfl rfl)
theorem dX0_layShares_98 : decode cX0_layShares 98 = .ok (.iconst 0, 1) := dk_3 (dk_at dksX0_layShares_4 3 rfl rfl)
theorem dX0_layShares_99 : decode cX0_layShares 99 = .ok (.goto 15, 3) := dk_167 0 15 (dk_at dksX0_layShares_4 4 rfl rfl)
theorem dX0_layShares_102 : decode cX0_layShares 102 = .ok (.bipush 100, 2) := dk_16 100 (dk_at dksX0_layShares_4 7 rfl rfl)
theorem dX0_layShares_104 : decode cX0_layShares 104 = .ok (.aload_n 0, 1) := dk_42 (dk_at dksX0_layShares_4 9 rfl rfl)
theorem dX0_layShares_105 : decode cX0_layShares 105 = .ok (.getfield 46, 3) := dk_180 0 46 (dk_at dksX0_layShares_4 10 rfl rfl)
theorem dX0_layShares_108 : decode cX0_layShares 108 = .ok (.iload 5, 2) := dk_21 5 (dk_at dksX0_layShares_4 13 rfl rfl)
theorem dX0_layShares_110 : decode cX0_layShares 110 = .ok (.iaload, 1) := dk_46 (dk_at dksX0_layShares_4 15 rfl rfl)
theorem dX0_layShares_111 : decode cX0_layShares 111 = .ok (.imul, 1) := dk_104 (dk_at dksX0_layShares_4 16 rfl rfl)
theorem dX0_layShares_112 : decode cX0_layShares 112 = .ok (.iload_n 3, 1) := dk_29 (dk_at dksX0_layShares_4 17 rfl rfl)
theorem dX0_layShares_113 : decode cX0_layShares 113 = .ok (.idiv, 1) := dk_108 (dk_at dksX0_layShares_4 18 rfl rfl)
theorem dX0_layShares_114 : decode cX0_layShares 114 = .ok (.iastore, 1) := dk_79 (dk_at dksX0_layShares_4 19 rfl rfl)
theorem dX0_layShares_115 : decode cX0_layShares 115 = .ok (.aload_n 0, 1) := dk_42 (dk_at dksX0_layShares_4 20 rfl rfl)
theorem dX0_layShares_116 : decode cX0_layShares 116 = .ok (.getfield 52, 3) := dk_180 0 52 (dk_at dksX0_layShares_4 21 rfl rfl)
theorem dX0_layShares_119 : decode cX0_layShares 119 = .ok (.iload 5, 2) := dk_21 5 (dk_at dksX0_layShares_5 0 rfl rfl)
theorem dX0_layShares_121 : decode cX0_layShares 121 = .ok (.iload_n 3, 1) := dk_29 (dk_at dksX0_layShares_5 2 rfl rfl)
theorem dX0_layShares_122 : decode cX0_layShares 122 = .ok (.ifCond .ne 7, 3) := dk_154 0 7 (dk_at dksX0_layShares_5 3 rfl rfl)
theorem dX0_layShares_125 : decode cX0_layShares 125 = .ok (.iconst 0, 1) := dk_3 (dk_at dksX0_layShares_5 6 rfl rfl)
theorem dX0_layShares_126 : decode cX0_layShares 126 = .ok (.goto 15, 3) := dk_167 0 15 (dk_at dksX0_layShares_5 7 rfl rfl)
theorem dX0_layShares_129 : decode cX0_layShares 129 = .ok (.bipush 100, 2) := dk_16 100 (dk_at dksX0_layShares_5 10 rfl rfl)
theorem dX0_layShares_131 : decode cX0_layShares 131 = .ok (.aload_n 0, 1) := dk_42 (dk_at dksX0_layShares_5 12 rfl rfl)
theorem dX0_layShares_132 : decode cX0_layShares 132 = .ok (.getfield 46, 3) := dk_180 0 46 (dk_at dksX0_layShares_5 13 rfl rfl)
theorem dX0_layShares_135 : decode cX0_layShares 135 = .ok (.iload 5, 2) := dk_21 5 (dk_at dksX0_layShares_5 16 rfl rfl)
theorem dX0_layShares_137 : decode cX0_layShares 137 = .ok (.iaload, 1) := dk_46 (dk_at dksX0_layShares_5 18 rfl rfl)
theorem dX0_layShares_138 : decode cX0_layShares 138 = .ok (.imul, 1) := dk_104 (dk_at dksX0_layShares_5 19 rfl rfl)
theorem dX0_layShares_139 : decode cX0_layShares 139 = .ok (.iload_n 3, 1) := dk_29 (dk_at dksX0_layShares_5 20 rfl rfl)
theorem dX0_layShares_140 : decode cX0_layShares 140 = .ok (.irem, 1) := dk_112 (dk_at dksX0_layShares_5 21 rfl rfl)
theorem dX0_layShares_141 : decode cX0_layShares 141 = .ok (.iastore, 1) := dk_79 (dk_at dksX0_layShares_5 22 rfl rfl)
theorem dX0_layShares_142 : decode cX0_layShares 142 = .ok (.iload 4, 2) := dk_21 4 (dk_at dksX0_layShares_6 0 rfl rfl)
theorem dX0_layShares_144 : decode cX0_layShares 144 = .ok (.aload_n 0, 1) := dk_42 (dk_at dksX0_layShares_6 2 rfl rfl)
theorem dX0_layShares_145 : decode cX0_layShares 145 = .ok (.getfield 49, 3) := dk_180 0 49 (dk_at dksX0_layShares_6 3 rfl rfl)
theorem dX0_layShares_148 : decode cX0_layShares 148 = .ok (.iload 5, 2) := dk_21 5 (dk_at dksX0_layShares_6 6 rfl rfl)
theorem dX0_layShares_150 : decode cX0_layShares 150 = .ok (.iaload, 1) := dk_46 (dk_at dksX0_layShares_6 8 rfl rfl)
theorem dX0_layShares_151 : decode cX0_layShares 151 = .ok (.isub, 1) := dk_100 (dk_at dksX0_layShares_6 9 rfl rfl)
theorem dX0_layShares_152 : decode cX0_layShares 152 = .ok (.istore 4, 2) := dk_54 4 (dk_at dksX0_layShares_6 10 rfl rfl)
theorem dX0_layShares_154 : decode cX0_layShares 154 = .ok (.iinc 5 1, 3) := dk_132 5 1 (dk_at dksX0_layShares_6 12 rfl rfl)
theorem dX0_layShares_157 : decode cX0_layShares 157 = .ok (.goto (-75), 3) := dk_167 255 181 (dk_at dksX0_layShares_6 15 rfl rfl)
theorem dX0_layShares_160 : decode cX0_layShares 160 = .ok (.iload 4, 2) := dk_21 4 (dk_at dksX0_layShares_6 18 rfl rfl)
theorem dX0_layShares_162 : decode cX0_layShares 162 = .ok (.ifCond .le 76, 3) := dk_158 0 76 (dk_at dksX0_layShares_6 20 rfl rfl)
theorem dX0_layShares_165 : decode cX0_layShares 165 = .ok (.iload_n 3, 1) := dk_29 (dk_at dksX0_layShares_6 23 rfl rfl)
theorem dX0_layShares_166 : decode cX0_layShares 166 = .ok (.ifCond .le 72, 3) := dk_158 0 72 (dk_at dksX0_layShares_7 0 rfl rfl)
theorem dX0_layShares_169 : decode cX0_layShares 169 = .ok (.iconst 0, 1) := dk_3 (dk_at dksX0_layShares_7 3 rfl rfl)
theorem dX0_layShares_170 : decode cX0_layShares 170 = .ok (.istore 5, 2) := dk_54 5 (dk_at dksX0_layShares_7 4 rfl rfl)
theorem dX0_layShares_172 : decode cX0_layShares 172 = .ok (.iconst 1, 1) := dk_4 (dk_at dksX0_layShares_7 6 rfl rfl)
theorem dX0_layShares_173 : decode cX0_layShares 173 = .ok (.istore 6, 2) := dk_54 6 (dk_at dksX0_layShares_7 7 rfl rfl)
theorem dX0_layShares_175 : decode cX0_layShares 175 = .ok (.iload 6, 2) := dk_21 6 (dk_at dksX0_layShares_7 9 rfl rfl)
theorem dX0_layShares_177 : decode cX0_layShares 177 = .ok (.iload_n 2, 1) := dk_28 (dk_at dksX0_layShares_7 11 rfl rfl)
theorem dX0_layShares_178 : decode cX0_layShares 178 = .ok (.if_icmp .ge 35, 3) := dk_162 0 35 (dk_at dksX0_layShares_7 12 rfl rfl)
theorem dX0_layShares_181 : decode cX0_layShares 181 = .ok (.aload_n 0, 1) := dk_42 (dk_at dksX0_layShares_7 15 rfl rfl)
theorem dX0_layShares_182 : decode cX0_layShares 182 = .ok (.getfield 52, 3) := dk_180 0 52 (dk_at dksX0_layShares_7 16 rfl rfl)
theorem dX0_layShares_185 : decode cX0_layShares 185 = .ok (.iload 6, 2) := dk_21 6 (dk_at dksX0_layShares_7 19 rfl rfl)
theorem dX0_layShares_187 : decode cX0_layShares 187 = .ok (.iaload, 1) := dk_46 (dk_at dksX0_layShares_7 21 rfl rfl)
theorem dX0_layShares_188 : decode cX0_layShares 188 = .ok (.aload_n 0, 1) := dk_42 (dk_at dksX0_layShares_7 22 rfl rfl)
theorem dX0_layShares_189 : decode cX0_layShares 189 = .ok (.getfield 52, 3) := dk_180 0 52 (dk_at dksX0_layShares_8 0 rfl rfl)
theorem dX0_layShares_192 : decode cX0_layShares 192 = .ok (.iload 5, 2) := dk_21 5 (dk_at dksX0_layShares_8 3 rfl rfl)
theorem dX0_layShares_194 : decode cX0_layShares 194 = .ok (.iaload, 1) := dk_46 (dk_at dksX0_layShares_8 5 rfl rfl)
theorem dX0_layShares_195 : decode cX0_layShares 195 = .ok (.if_icmp .le 8, 3) := dk_164 0 8 (dk_at dksX0_layShares_8 6 rfl rfl)
theorem dX0_layShares_198 : decode cX0_layShares 198 = .ok (.iload 6, 2) := dk_21 6 (dk_at dksX0_layShares_8 9 rfl rfl)
theorem dX0_layShares_200 : decode cX0_layShares 200 = .ok (.goto 5, 3) := dk_167 0 5 (dk_at dksX0_layShares_8 11 rfl rfl)
theorem dX0_layShares_203 : decode cX0_layShares 203 = .ok (.iload 5, 2) := dk_21 5 (dk_at dksX0_layShares_8 14 rfl rfl)
theorem dX0_layShares_205 : decode cX0_layShares 205 = .ok (.istore 5, 2) := dk_54 5 (dk_at dksX0_layShares_8 16 rfl rfl)
theorem dX0_layShares_207 : decode cX0_layShares 207 = .ok (.iinc 6 1, 3) := dk_132 6 1 (dk_at dksX0_layShares_8 18 rfl rfl)
theorem dX0_layShares_210 : decode cX0_layShares 210 = .ok (.goto (-35), 3) := dk_167 255 221 (dk_at dksX0_layShares_8 21 rfl rfl)
theorem dX0_layShares_213 : decode cX0_layShares 213 = .ok (.aload_n 0, 1) := dk_42 (dk_at dksX0_layShares_9 0 rfl rfl)
theorem dX0_layShares_214 : decode cX0_layShares 214 = .ok (.getfield 49, 3) := dk_180 0 49 (dk_at dksX0_layShares_9 1 rfl rfl)
theorem dX0_layShares_217 : decode cX0_layShares 217 = .ok (.iload 5, 2) := dk_21 5 (dk_at dksX0_layShares_9 4 rfl rfl)
theorem dX0_layShares_219 : decode cX0_layShares 219 = .ok (.dup2, 1) := dk_92 (dk_at dksX0_layShares_9 6 rfl rfl)
theorem dX0_layShares_220 : decode cX0_layShares 220 = .ok (.iaload, 1) := dk_46 (dk_at dksX0_layShares_9 7 rfl rfl)
theorem dX0_layShares_221 : decode cX0_layShares 221 = .ok (.iconst 1, 1) := dk_4 (dk_at dksX0_layShares_9 8 rfl rfl)
theorem dX0_layShares_222 : decode cX0_layShares 222 = .ok (.iadd, 1) := dk_96 (dk_at dksX0_layShares_9 9 rfl rfl)
theorem dX0_layShares_223 : decode cX0_layShares 223 = .ok (.iastore, 1) := dk_79 (dk_at dksX0_layShares_9 10 rfl rfl)
theorem dX0_layShares_224 : decode cX0_layShares 224 = .ok (.aload_n 0, 1) := dk_42 (dk_at dksX0_layShares_9 11 rfl rfl)
theorem dX0_layShares_225 : decode cX0_layShares 225 = .ok (.getfield 52, 3) := dk_180 0 52 (dk_at dksX0_layShares_9 12 rfl rfl)
theorem dX0_layShares_228 : decode cX0_layShares 228 = .ok (.iload 5, 2) := dk_21 5 (dk_at dksX0_layShares_9 15 rfl rfl)
theorem dX0_layShares_230 : decode cX0_layShares 230 = .ok (.iconst (-1), 1) := dk_2 (dk_at dksX0_layShares_9 17 rfl rfl)
theorem dX0_layShares_231 : decode cX0_layShares 231 = .ok (.iastore, 1) := dk_79 (dk_at dksX0_layShares_9 18 rfl rfl)
theorem dX0_layShares_232 : decode cX0_layShares 232 = .ok (.iinc 4 (-1), 3) := dk_132 4 255 (dk_at dksX0_layShares_9 19 rfl rfl)
theorem dX0_layShares_235 : decode cX0_layShares 235 = .ok (.goto (-75), 3) := dk_167 255 181 (dk_at dksX0_layShares_10 0 rfl rfl)
theorem dX0_layShares_238 : decode cX0_layShares 238 = .ok (.return_, 1) := dk_177 (dk_at dksX0_layShares_10 3 rfl rfl)
abbrev cX0_forge : ByteArray := prog_1_method_43_code
def yX0_forge : MethodName := ⟨RX0, "forge", "(IIIII)I"⟩
def dkwX0_forge_6 : List UInt8 := [172]
abbrev dktX0_forge_6 : List UInt8 := dkwX0_forge_6 ++ []
def dkwX0_forge_5 : List UInt8 := [167, 255, 196, 21, 6, 156, 0, 7, 2, 167, 0, 15, 21, 5, 154, 0, 8, 21, 7, 167, 0, 5, 21, 6]
abbrev dktX0_forge_5 : List UInt8 := dkwX0_forge_5 ++ dktX0_forge_6
def dkwX0_forge_4 : List UInt8 := [182, 0, 236, 21, 4, 159, 0, 6, 167, 0, 11, 21, 8, 54, 6, 21, 9, 54, 7, 132, 8, 1]
abbrev dktX0_forge_4 : List UInt8 := dkwX0_forge_4 ++ dktX0_forge_5
def dkwX0_forge_3 : List UInt8 := [180, 0, 164, 27, 46, 130, 184, 0, 240, 54, 9, 21, 9, 21, 7, 162, 0, 27, 42, 21, 8, 28, 29]
abbrev dktX0_forge_3 : List UInt8 := dkwX0_forge_3 ++ dktX0_forge_4
def dkwX0_forge_2 : List UInt8 := [19, 1, 7, 54, 7, 3, 54, 8, 21, 8, 42, 182, 0, 157, 162, 0, 57, 21, 8, 42, 180, 0, 31]
abbrev dktX0_forge_2 : List UInt8 := dkwX0_forge_2 ++ dktX0_forge_3
def dkwX0_forge_1 : List UInt8 := [21, 4, 182, 0, 192, 153, 0, 13, 21, 5, 3, 4, 184, 0, 150, 154, 0, 5, 2, 172, 2, 54, 6]
abbrev dktX0_forge_1 : List UInt8 := dkwX0_forge_1 ++ dktX0_forge_2
def dkwX0_forge_0 : List UInt8 := [42, 27, 182, 0, 160, 153, 0, 37, 42, 28, 182, 0, 204, 153, 0, 29, 29, 184, 0, 207, 153, 0, 22, 42]
abbrev dktX0_forge_0 : List UInt8 := dkwX0_forge_0 ++ dktX0_forge_1
theorem dksX0_forge_0 : cX0_forge.data.toList.drop 0 = dktX0_forge_0 := by decide +kernel
theorem dksX0_forge_1 : cX0_forge.data.toList.drop 24 = dktX0_forge_1 := dk_seg dksX0_forge_0 24 rfl rfl
theorem dksX0_forge_2 : cX0_forge.data.toList.drop 47 = dktX0_forge_2 := dk_seg dksX0_forge_1 23 rfl rfl
theorem dksX0_forge_3 : cX0_forge.data.toList.drop 70 = dktX0_forge_3 := dk_seg dksX0_forge_2 23 rfl rfl
theorem dksX0_forge_4 : cX0_forge.data.toList.drop 93 = dktX0_forge_4 := dk_seg dksX0_forge_3 23 rfl rfl
theorem dksX0_forge_5 : cX0_forge.data.toList.drop 115 = dktX0_forge_5 := dk_seg dksX0_forge_4 22 rfl rfl
theorem dksX0_forge_6 : cX0_forge.data.toList.drop 139 = dktX0_forge_6 := dk_seg dksX0_forge_5 24 rfl rfl
theorem dX0_forge_0 : decode cX0_forge 0 = .ok (.aload_n 0, 1) := dk_42 (dk_at dksX0_forge_0 0 rfl rfl)
theorem dX0_forge_1 : decode cX0_forge 1 = .ok (.iload_n 1, 1) := dk_27 (dk_at dksX0_forge_0 1 rfl rfl)
theorem dX0_forge_2 : decode cX0_forge 2 = .ok (.invokevirtual 160, 3) := dk_182 0 160 (dk_at dksX0_forge_0 2 rfl rfl)
theorem dX0_forge_5 : decode cX0_forge 5 = .ok (.ifCond .eq 37, 3) := dk_153 0 37 (dk_at dksX0_forge_0 5 rfl rfl)
theorem dX0_forge_8 : decode cX0_forge 8 = .ok (.aload_n 0, 1) := dk_42 (dk_at dksX0_forge_0 8 rfl rfl)
theorem dX0_forge_9 : decode cX0_forge 9 = .ok (.iload_n 2, 1) := dk_28 (dk_at dksX0_forge_0 9 rfl rfl)
theorem dX0_forge_10 : decode cX0_forge 10 = .ok (.invokevirtual 204, 3) := dk_182 0 204 (dk_at dksX0_forge_0 10 rfl rfl)
theorem dX0_forge_13 : decode cX0_forge 13 = .ok (.ifCond .eq 29, 3) := dk_153 0 29 (dk_at dksX0_forge_0 13 rfl rfl)
theorem dX0_forge_16 : decode cX0_forge 16 = .ok (.iload_n 3, 1) := dk_29 (dk_at dksX0_forge_0 16 rfl rfl)
theorem dX0_forge_17 : decode cX0_forge 17 = .ok (.invokestatic 207, 3) := dk_184 0 207 (dk_at dksX0_forge_0 17 rfl rfl)
theorem dX0_forge_20 : decode cX0_forge 20 = .ok (.ifCond .eq 22, 3) := dk_153 0 22 (dk_at dksX0_forge_0 20 rfl rfl)
theorem dX0_forge_23 : decode cX0_forge 23 = .ok (.aload_n 0, 1) := dk_42 (dk_at dksX0_forge_0 23 rfl rfl)
theorem dX0_forge_24 : decode cX0_forge 24 = .ok (.iload 4, 2) := dk_21 4 (dk_at dksX0_forge_1 0 rfl rfl)
theorem dX0_forge_26 : decode cX0_forge 26 = .ok (.invokevirtual 192, 3) := dk_182 0 192 (dk_at dksX0_forge_1 2 rfl rfl)
theorem dX0_forge_29 : decode cX0_forge 29 = .ok (.ifCond .eq 13, 3) := dk_153 0 13 (dk_at dksX0_forge_1 5 rfl rfl)
theorem dX0_forge_32 : decode cX0_forge 32 = .ok (.iload 5, 2) := dk_21 5 (dk_at dksX0_forge_1 8 rfl rfl)
theorem dX0_forge_34 : decode cX0_forge 34 = .ok (.iconst 0, 1) := dk_3 (dk_at dksX0_forge_1 10 rfl rfl)
theorem dX0_forge_35 : decode cX0_forge 35 = .ok (.iconst 1, 1) := dk_4 (dk_at dksX0_forge_1 11 rfl rfl)
theorem dX0_forge_36 : decode cX0_forge 36 = .ok (.invokestatic 150, 3) := dk_184 0 150 (dk_at dksX0_forge_1 12 rfl rfl)
theorem dX0_forge_39 : decode cX0_forge 39 = .ok (.ifCond .ne 5, 3) := dk_154 0 5 (dk_at dksX0_forge_1 15 rfl rfl)
theorem dX0_forge_42 : decode cX0_forge 42 = .ok (.iconst (-1), 1) := dk_2 (dk_at dksX0_forge_1 18 rfl rfl)
theorem dX0_forge_43 : decode cX0_forge 43 = .ok (.ireturn, 1) := dk_172 (dk_at dksX0_forge_1 19 rfl rfl)
theorem dX0_forge_44 : decode cX0_forge 44 = .ok (.iconst (-1), 1) := dk_2 (dk_at dksX0_forge_1 20 rfl rfl)
theorem dX0_forge_45 : decode cX0_forge 45 = .ok (.istore 6, 2) := dk_54 6 (dk_at dksX0_forge_1 21 rfl rfl)
theorem dX0_forge_47 : decode cX0_forge 47 = .ok (.ldc_w 263, 3) := dk_19 1 7 (dk_at dksX0_forge_2 0 rfl rfl)
theorem dX0_forge_50 : decode cX0_forge 50 = .ok (.istore 7, 2) := dk_54 7 (dk_at dksX0_forge_2 3 rfl rfl)
theorem dX0_forge_52 : decode cX0_forge 52 = .ok (.iconst 0, 1) := dk_3 (dk_at dksX0_forge_2 5 rfl rfl)
theorem dX0_forge_53 : decode cX0_forge 53 = .ok (.istore 8, 2) := dk_54 8 (dk_at dksX0_forge_2 6 rfl rfl)
theorem dX0_forge_55 : decode cX0_forge 55 = .ok (.iload 8, 2) := dk_21 8 (dk_at dksX0_forge_2 8 rfl rfl)
theorem dX0_forge_57 : decode cX0_forge 57 = .ok (.aload_n 0, 1) := dk_42 (dk_at dksX0_forge_2 10 rfl rfl)
theorem dX0_forge_58 : decode cX0_forge 58 = .ok (.invokevirtual 157, 3) := dk_182 0 157 (dk_at dksX0_forge_2 11 rfl rfl)
theorem dX0_forge_61 : decode cX0_forge 61 = .ok (.if_icmp .ge 57, 3) := dk_162 0 57 (dk_at dksX0_forge_2 14 rfl rfl)
theorem dX0_forge_64 : decode cX0_forge 64 = .ok (.iload 8, 2) := dk_21 8 (dk_at dksX0_forge_2 17 rfl rfl)
theorem dX0_forge_66 : decode cX0_forge 66 = .ok (.aload_n 0, 1) := dk_42 (dk_at dksX0_forge_2 19 rfl rfl)
theorem dX0_forge_67 : decode cX0_forge 67 = .ok (.getfield 31, 3) := dk_180 0 31 (dk_at dksX0_forge_2 20 rfl rfl)
theorem dX0_forge_70 : decode cX0_forge 70 = .ok (.getfield 164, 3) := dk_180 0 164 (dk_at dksX0_forge_3 0 rfl rfl)
theorem dX0_forge_73 : decode cX0_forge 73 = .ok (.iload_n 1, 1) := dk_27 (dk_at dksX0_forge_3 3 rfl rfl)
theorem dX0_forge_74 : decode cX0_forge 74 = .ok (.iaload, 1) := dk_46 (dk_at dksX0_forge_3 4 rfl rfl)
theorem dX0_forge_75 : decode cX0_forge 75 = .ok (.ixor, 1) := dk_130 (dk_at dksX0_forge_3 5 rfl rfl)
theorem dX0_forge_76 : decode cX0_forge 76 = .ok (.invokestatic 240, 3) := dk_184 0 240 (dk_at dksX0_forge_3 6 rfl rfl)
theorem dX0_forge_79 : decode cX0_forge 79 = .ok (.istore 9, 2) := dk_54 9 (dk_at dksX0_forge_3 9 rfl rfl)
theorem dX0_forge_81 : decode cX0_forge 81 = .ok (.iload 9, 2) := dk_21 9 (dk_at dksX0_forge_3 11 rfl rfl)
theorem dX0_forge_83 : decode cX0_forge 83 = .ok (.iload 7, 2) := dk_21 7 (dk_at dksX0_forge_3 13 rfl rfl)
theorem dX0_forge_85 : decode cX0_forge 85 = .ok (.if_icmp .ge 27, 3) := dk_162 0 27 (dk_at dksX0_forge_3 15 rfl rfl)
theorem dX0_forge_88 : decode cX0_forge 88 = .ok (.aload_n 0, 1) := dk_42 (dk_at dksX0_forge_3 18 rfl rfl)
theorem dX0_forge_89 : decode cX0_forge 89 = .ok (.iload 8, 2) := dk_21 8 (dk_at dksX0_forge_3 19 rfl rfl)
theorem dX0_forge_91 : decode cX0_forge 91 = .ok (.iload_n 2, 1) := dk_28 (dk_at dksX0_forge_3 21 rfl rfl)
theorem dX0_forge_92 : decode cX0_forge 92 = .ok (.iload_n 3, 1) := dk_29 (dk_at dksX0_forge_3 22 rfl rfl)
theorem dX0_forge_93 : decode cX0_forge 93 = .ok (.invokevirtual 236, 3) := dk_182 0 236 (dk_at dksX0_forge_4 0 rfl rfl)
theorem dX0_forge_96 : decode cX0_forge 96 = .ok (.iload 4, 2) := dk_21 4 (dk_at dksX0_forge_4 3 rfl rfl)
theorem dX0_forge_98 : decode cX0_forge 98 = .ok (.if_icmp .eq 6, 3) := dk_159 0 6 (dk_at dksX0_forge_4 5 rfl rfl)
theorem dX0_forge_101 : decode cX0_forge 101 = .ok (.goto 11, 3) := dk_167 0 11 (dk_at dksX0_forge_4 8 rfl rfl)
theorem dX0_forge_104 : decode cX0_forge 104 = .ok (.iload 8, 2) := dk_21 8 (dk_at dksX0_forge_4 11 rfl rfl)
theorem dX0_forge_106 : decode cX0_forge 106 = .ok (.istore 6, 2) := dk_54 6 (dk_at dksX0_forge_4 13 rfl rfl)
theorem dX0_forge_108 : decode cX0_forge 108 = .ok (.iload 9, 2) := dk_21 9 (dk_at dksX0_forge_4 15 rfl rfl)
theorem dX0_forge_110 : decode cX0_forge 110 = .ok (.istore 7, 2) := dk_54 7 (dk_at dksX0_forge_4 17 rfl rfl)
theorem dX0_forge_112 : decode cX0_forge 112 = .ok (.iinc 8 1, 3) := dk_132 8 1 (dk_at dksX0_forge_4 19 rfl rfl)
theorem dX0_forge_115 : decode cX0_forge 115 = .ok (.goto (-60), 3) := dk_167 255 196 (dk_at dksX0_forge_5 0 rfl rfl)
theorem dX0_forge_118 : decode cX0_forge 118 = .ok (.iload 6, 2) := dk_21 6 (dk_at dksX0_forge_5 3 rfl rfl)
theorem dX0_forge_120 : decode cX0_forge 120 = .ok (.ifCond .ge 7, 3) := dk_156 0 7 (dk_at dksX0_forge_5 5 rfl rfl)
theorem dX0_forge_123 : decode cX0_forge 123 = .ok (.iconst (-1), 1) := dk_2 (dk_at dksX0_forge_5 8 rfl rfl)
theorem dX0_forge_124 : decode cX0_forge 124 = .ok (.goto 15, 3) := dk_167 0 15 (dk_at dksX0_forge_5 9 rfl rfl)
theorem dX0_forge_127 : decode cX0_forge 127 = .ok (.iload 5, 2) := dk_21 5 (dk_at dksX0_forge_5 12 rfl rfl)
theorem dX0_forge_129 : decode cX0_forge 129 = .ok (.ifCond .ne 8, 3) := dk_154 0 8 (dk_at dksX0_forge_5 14 rfl rfl)
theorem dX0_forge_132 : decode cX0_forge 132 = .ok (.iload 7, 2) := dk_21 7 (dk_at dksX0_forge_5 17 rfl rfl)
theorem dX0_forge_134 : decode cX0_forge 134 = .ok (.goto 5, 3) := dk_167 0 5 (dk_at dksX0_forge_5 19 rfl rfl)
theorem dX0_forge_137 : decode cX0_forge 137 = .ok (.iload 6, 2) := dk_21 6 (dk_at dksX0_forge_5 22 rfl rfl)
theorem dX0_forge_139 : decode cX0_forge 139 = .ok (.ireturn, 1) := dk_172 (dk_at dksX0_forge_6 0 rfl rfl)
abbrev cX0_nearest : ByteArray := prog_1_method_44_code
def yX0_nearest : MethodName := ⟨RX0, "nearest", "(II)I"⟩
def dkwX0_nearest_7 : List UInt8 := [172]
abbrev dktX0_nearest_7 : List UInt8 := dkwX0_nearest_7 ++ []
def dkwX0_nearest_6 : List UInt8 := [160, 0, 15, 29, 42, 180, 0, 31, 180, 0, 154, 112, 167, 0, 12, 29, 42, 180, 0, 31, 180, 0, 154, 108]
abbrev dktX0_nearest_6 : List UInt8 := dkwX0_nearest_6 ++ dktX0_nearest_7
def dkwX0_nearest_5 : List UInt8 := [62, 21, 7, 54, 4, 132, 5, 1, 167, 255, 161, 28, 154, 0, 8, 21, 4, 167, 0, 29, 28, 4]
abbrev dktX0_nearest_5 : List UInt8 := dkwX0_nearest_5 ++ dktX0_nearest_6
def dkwX0_nearest_4 : List UInt8 := [180, 0, 164, 21, 6, 46, 130, 184, 0, 240, 54, 7, 21, 7, 21, 4, 161, 0, 6, 167, 0, 10, 21, 5]
abbrev dktX0_nearest_4 : List UInt8 := dkwX0_nearest_4 ++ dktX0_nearest_5
def dkwX0_nearest_3 : List UInt8 := [180, 0, 20, 42, 180, 0, 31, 180, 0, 164, 21, 6, 46, 182, 0, 195, 167, 0, 13, 42, 180, 0, 31]
abbrev dktX0_nearest_3 : List UInt8 := dkwX0_nearest_3 ++ dktX0_nearest_4
def dkwX0_nearest_2 : List UInt8 := [180, 0, 31, 180, 0, 154, 112, 54, 6, 27, 21, 5, 42, 180, 0, 31, 180, 0, 154, 162, 0, 23, 42]
abbrev dktX0_nearest_2 : List UInt8 := dkwX0_nearest_2 ++ dktX0_nearest_3
def dkwX0_nearest_1 : List UInt8 := [54, 4, 3, 54, 5, 21, 5, 5, 42, 180, 0, 31, 180, 0, 154, 104, 162, 0, 87, 21, 5, 42]
abbrev dktX0_nearest_1 : List UInt8 := dkwX0_nearest_1 ++ dktX0_nearest_2
def dkwX0_nearest_0 : List UInt8 := [42, 27, 182, 0, 192, 153, 0, 12, 28, 3, 5, 184, 0, 150, 154, 0, 5, 2, 172, 3, 62, 19, 1, 7]
abbrev dktX0_nearest_0 : List UInt8 := dkwX0_nearest_0 ++ dktX0_nearest_1
theorem dksX0_nearest_0 : cX0_nearest.data.toList.drop 0 = dktX0_nearest_0 := by decide +kernel
theorem dksX0_nearest_1 : cX0_nearest.data.toList.drop 24 = dktX0_nearest_1 := dk_seg dksX0_nearest_0 24 rfl rfl
theorem dksX0_nearest_2 : cX0_nearest.data.toList.drop 46 = dktX0_nearest_2 := dk_seg dksX0_nearest_1 22 rfl rfl
theorem dksX0_nearest_3 : cX0_nearest.data.toList.drop 69 = dktX0_nearest_3 := dk_seg dksX0_nearest_2 23 rfl rfl
theorem dksX0_nearest_4 : cX0_nearest.data.toList.drop 92 = dktX0_nearest_4 := dk_seg dksX0_nearest_3 23 rfl rfl
theorem dksX0_nearest_5 : cX0_nearest.data.toList.drop 116 = dktX0_nearest_5 := dk_seg dksX0_nearest_4 24 rfl rfl
theorem dksX0_nearest_6 : cX0_nearest.data.toList.drop 138 = dktX0_nearest_6 := dk_seg dksX0_nearest_5 22 rfl rfl
theorem dksX0_nearest_7 : cX0_nearest.data.toList.drop 162 = dktX0_nearest_7 := dk_seg dksX0_nearest_6 24 rfl rfl
theorem dX0_nearest_0 : decode cX0_nearest 0 = .ok (.aload_n 0, 1) := dk_42 (dk_at dksX0_nearest_0 0 rfl rfl)
theorem dX0_nearest_1 : decode cX0_nearest 1 = .ok (.iload_n 1, 1) := dk_27 (dk_at dksX0_nearest_0 1 rfl rfl)
theorem dX0_nearest_2 : decode cX0_nearest 2 = .ok (.invokevirtual 192, 3) := dk_182 0 192 (dk_at dksX0_nearest_0 2 rfl rfl)
theorem dX0_nearest_5 : decode cX0_nearest 5 = .ok (.ifCond .eq 12, 3) := dk_153 0 12 (dk_at dksX0_nearest_0 5 rfl rfl)
theorem dX0_nearest_8 : decode cX0_nearest 8 = .ok (.iload_n 2, 1) := dk_28 (dk_at dksX0_nearest_0 8 rfl rfl)
theorem dX0_nearest_9 : decode cX0_nearest 9 = .ok (.iconst 0, 1) := dk_3 (dk_at dksX0_nearest_0 9 rfl rfl)
theorem dX0_nearest_10 : decode cX0_nearest 10 = .ok (.iconst 2, 1) := dk_5 (dk_at dksX0_nearest_0 10 rfl rfl)
theorem dX0_nearest_11 : decode cX0_nearest 11 = .ok (.invokestatic 150, 3) := dk_184 0 150 (dk_at dksX0_nearest_0 11 rfl rfl)
theorem dX0_nearest_14 : decode cX0_nearest 14 = .ok (.ifCond .ne 5, 3) := dk_154 0 5 (dk_at dksX0_nearest_0 14 rfl rfl)
theorem dX0_nearest_17 : decode cX0_nearest 17 = .ok (.iconst (-1), 1) := dk_2 (dk_at dksX0_nearest_0 17 rfl rfl)
theorem dX0_nearest_18 : decode cX0_nearest 18 = .ok (.ireturn, 1) := dk_172 (dk_at dksX0_nearest_0 18 rfl rfl)
theorem dX0_nearest_19 : decode cX0_nearest 19 = .ok (.iconst 0, 1) := dk_3 (dk_at dksX0_nearest_0 19 rfl rfl)
theorem dX0_nearest_20 : decode cX0_nearest 20 = .ok (.istore_n 3, 1) := dk_62 (dk_at dksX0_nearest_0 20 rfl rfl)
theorem dX0_nearest_21 : decode cX0_nearest 21 = .ok (.ldc_w 263, 3) := dk_19 1 7 (dk_at dksX0_nearest_0 21 rfl rfl)
theorem dX0_nearest_24 : decode cX0_nearest 24 = .ok (.istore 4, 2) := dk_54 4 (dk_at dksX0_nearest_1 0 rfl rfl)
theorem dX0_nearest_26 : decode cX0_nearest 26 = .ok (.iconst 0, 1) := dk_3 (dk_at dksX0_nearest_1 2 rfl rfl)
theorem dX0_nearest_27 : decode cX0_nearest 27 = .ok (.istore 5, 2) := dk_54 5 (dk_at dksX0_nearest_1 3 rfl rfl)
theorem dX0_nearest_29 : decode cX0_nearest 29 = .ok (.iload 5, 2) := dk_21 5 (dk_at dksX0_nearest_1 5 rfl rfl)
theorem dX0_nearest_31 : decode cX0_nearest 31 = .ok (.iconst 2, 1) := dk_5 (dk_at dksX0_nearest_1 7 rfl rfl)
theorem dX0_nearest_32 : decode cX0_nearest 32 = .ok (.aload_n 0, 1) := dk_42 (dk_at dksX0_nearest_1 8 rfl rfl)
theorem dX0_nearest_33 : decode cX0_nearest 33 = .ok (.getfield 31, 3) := dk_180 0 31 (dk_at dksX0_nearest_1 9 rfl rfl)
theorem dX0_nearest_36 : decode cX0_nearest 36 = .ok (.getfield 154, 3) := dk_180 0 154 (dk_at dksX0_nearest_1 12 rfl rfl)
theorem dX0_nearest_39 : decode cX0_nearest 39 = .ok (.imul, 1) := dk_104 (dk_at dksX0_nearest_1 15 rfl rfl)
theorem dX0_nearest_40 : decode cX0_nearest 40 = .ok (.if_icmp .ge 87, 3) := dk_162 0 87 (dk_at dksX0_nearest_1 16 rfl rfl)
theorem dX0_nearest_43 : decode cX0_nearest 43 = .ok (.iload 5, 2) := dk_21 5 (dk_at dksX0_nearest_1 19 rfl rfl)
theorem dX0_nearest_45 : decode cX0_nearest 45 = .ok (.aload_n 0, 1) := dk_42 (dk_at dksX0_nearest_1 21 rfl rfl)
theorem dX0_nearest_46 : decode cX0_nearest 46 = .ok (.getfield 31, 3) := dk_180 0 31 (dk_at dksX0_nearest_2 0 rfl rfl)
theorem dX0_nearest_49 : decode cX0_nearest 49 = .ok (.getfield 154, 3) := dk_180 0 154 (dk_at dksX0_nearest_2 3 rfl rfl)
theorem dX0_nearest_52 : decode cX0_nearest 52 = .ok (.irem, 1) := dk_112 (dk_at dksX0_nearest_2 6 rfl rfl)
theorem dX0_nearest_53 : decode cX0_nearest 53 = .ok (.istore 6, 2) := dk_54 6 (dk_at dksX0_nearest_2 7 rfl rfl)
theorem dX0_nearest_55 : decode cX0_nearest 55 = .ok (.iload_n 1, 1) := dk_27 (dk_at dksX0_nearest_2 9 rfl rfl)
theorem dX0_nearest_56 : decode cX0_nearest 56 = .ok (.iload 5, 2) := dk_21 5 (dk_at dksX0_nearest_2 10 rfl rfl)
theorem dX0_nearest_58 : decode cX0_nearest 58 = .ok (.aload_n 0, 1) := dk_42 (dk_at dksX0_nearest_2 12 rfl rfl)
theorem dX0_nearest_59 : decode cX0_nearest 59 = .ok (.getfield 31, 3) := dk_180 0 31 (dk_at dksX0_nearest_2 13 rfl rfl)
theorem dX0_nearest_62 : decode cX0_nearest 62 = .ok (.getfield 154, 3) := dk_180 0 154 (dk_at dksX0_nearest_2 16 rfl rfl)
theorem dX0_nearest_65 : decode cX0_nearest 65 = .ok (.if_icmp .ge 23, 3) := dk_162 0 23 (dk_at dksX0_nearest_2 19 rfl rfl)
theorem dX0_nearest_68 : decode cX0_nearest 68 = .ok (.aload_n 0, 1) := dk_42 (dk_at dksX0_nearest_2 22 rfl rfl)
theorem dX0_nearest_69 : decode cX0_nearest 69 = .ok (.getfield 20, 3) := dk_180 0 20 (dk_at dksX0_nearest_3 0 rfl rfl)
theorem dX0_nearest_72 : decode cX0_nearest 72 = .ok (.aload_n 0, 1) := dk_42 (dk_at dksX0_nearest_3 3 rfl rfl)
theorem dX0_nearest_73 : decode cX0_nearest 73 = .ok (.getfield 31, 3) := dk_180 0 31 (dk_at dksX0_nearest_3 4 rfl rfl)
theorem dX0_nearest_76 : decode cX0_nearest 76 = .ok (.getfield 164, 3) := dk_180 0 164 (dk_at dksX0_nearest_3 7 rfl rfl)
theorem dX0_nearest_79 : decode cX0_nearest 79 = .ok (.iload 6, 2) := dk_21 6 (dk_at dksX0_nearest_3 10 rfl rfl)
theorem dX0_nearest_81 : decode cX0_nearest 81 = .ok (.iaload, 1) := dk_46 (dk_at dksX0_nearest_3 12 rfl rfl)
theorem dX0_nearest_82 : decode cX0_nearest 82 = .ok (.invokevirtual 195, 3) := dk_182 0 195 (dk_at dksX0_nearest_3 13 rfl rfl)
theorem dX0_nearest_85 : decode cX0_nearest 85 = .ok (.goto 13, 3) := dk_167 0 13 (dk_at dksX0_nearest_3 16 rfl rfl)
theorem dX0_nearest_88 : decode cX0_nearest 88 = .ok (.aload_n 0, 1) := dk_42 (dk_at dksX0_nearest_3 19 rfl rfl)
theorem dX0_nearest_89 : decode cX0_nearest 89 = .ok (.getfield 31, 3) := dk_180 0 31 (dk_at dksX0_nearest_3 20 rfl rfl)
theorem dX0_nearest_92 : decode cX0_nearest 92 = .ok (.getfield 164, 3) := dk_180 0 164 (dk_at dksX0_nearest_4 0 rfl rfl)
theorem dX0_nearest_95 : decode cX0_nearest 95 = .ok (.iload 6, 2) := dk_21 6 (dk_at dksX0_nearest_4 3 rfl rfl)
theorem dX0_nearest_97 : decode cX0_nearest 97 = .ok (.iaload, 1) := dk_46 (dk_at dksX0_nearest_4 5 rfl rfl)
theorem dX0_nearest_98 : decode cX0_nearest 98 = .ok (.ixor, 1) := dk_130 (dk_at dksX0_nearest_4 6 rfl rfl)
theorem dX0_nearest_99 : decode cX0_nearest 99 = .ok (.invokestatic 240, 3) := dk_184 0 240 (dk_at dksX0_nearest_4 7 rfl rfl)
theorem dX0_nearest_102 : decode cX0_nearest 102 = .ok (.istore 7, 2) := dk_54 7 (dk_at dksX0_nearest_4 10 rfl rfl)
theorem dX0_nearest_104 : decode cX0_nearest 104 = .ok (.iload 7, 2) := dk_21 7 (dk_at dksX0_nearest_4 12 rfl rfl)
theorem dX0_nearest_106 : decode cX0_nearest 106 = .ok (.iload 4, 2) := dk_21 4 (dk_at dksX0_nearest_4 14 rfl rfl)
theorem dX0_nearest_108 : decode cX0_nearest 108 = .ok (.if_icmp .lt 6, 3) := dk_161 0 6 (dk_at dksX0_nearest_4 16 rfl rfl)
theorem dX0_nearest_111 : decode cX0_nearest 111 = .ok (.goto 10, 3) := dk_167 0 10 (dk_at dksX0_nearest_4 19 rfl rfl)
theorem dX0_nearest_114 : decode cX0_nearest 114 = .ok (.iload 5, 2) := dk_21 5 (dk_at dksX0_nearest_4 22 rfl rfl)
theorem dX0_nearest_116 : decode cX0_nearest 116 = .ok (.istore_n 3, 1) := dk_62 (dk_at dksX0_nearest_5 0 rfl rfl)
theorem dX0_nearest_117 : decode cX0_nearest 117 = .ok (.iload 7, 2) := dk_21 7 (dk_at dksX0_nearest_5 1 rfl rfl)
theorem dX0_nearest_119 : decode cX0_nearest 119 = .ok (.istore 4, 2) := dk_54 4 (dk_at dksX0_nearest_5 3 rfl rfl)
theorem dX0_nearest_121 : decode cX0_nearest 121 = .ok (.iinc 5 1, 3) := dk_132 5 1 (dk_at dksX0_nearest_5 5 rfl rfl)
theorem dX0_nearest_124 : decode cX0_nearest 124 = .ok (.goto (-95), 3) := dk_167 255 161 (dk_at dksX0_nearest_5 8 rfl rfl)
theorem dX0_nearest_127 : decode cX0_nearest 127 = .ok (.iload_n 2, 1) := dk_28 (dk_at dksX0_nearest_5 11 rfl rfl)
theorem dX0_nearest_128 : decode cX0_nearest 128 = .ok (.ifCond .ne 8, 3) := dk_154 0 8 (dk_at dksX0_nearest_5 12 rfl rfl)
theorem dX0_nearest_131 : decode cX0_nearest 131 = .ok (.iload 4, 2) := dk_21 4 (dk_at dksX0_nearest_5 15 rfl rfl)
theorem dX0_nearest_133 : decode cX0_nearest 133 = .ok (.goto 29, 3) := dk_167 0 29 (dk_at dksX0_nearest_5 17 rfl rfl)
theorem dX0_nearest_136 : decode cX0_nearest 136 = .ok (.iload_n 2, 1) := dk_28 (dk_at dksX0_nearest_5 20 rfl rfl)
theorem dX0_nearest_137 : decode cX0_nearest 137 = .ok (.iconst 1, 1) := dk_4 (dk_at dksX0_nearest_5 21 rfl rfl)
theorem dX0_nearest_138 : decode cX0_nearest 138 = .ok (.if_icmp .ne 15, 3) := dk_160 0 15 (dk_at dksX0_nearest_6 0 rfl rfl)
theorem dX0_nearest_141 : decode cX0_nearest 141 = .ok (.iload_n 3, 1) := dk_29 (dk_at dksX0_nearest_6 3 rfl rfl)
theorem dX0_nearest_142 : decode cX0_nearest 142 = .ok (.aload_n 0, 1) := dk_42 (dk_at dksX0_nearest_6 4 rfl rfl)
theorem dX0_nearest_143 : decode cX0_nearest 143 = .ok (.getfield 31, 3) := dk_180 0 31 (dk_at dksX0_nearest_6 5 rfl rfl)
theorem dX0_nearest_146 : decode cX0_nearest 146 = .ok (.getfield 154, 3) := dk_180 0 154 (dk_at dksX0_nearest_6 8 rfl rfl)
theorem dX0_nearest_149 : decode cX0_nearest 149 = .ok (.irem, 1) := dk_112 (dk_at dksX0_nearest_6 11 rfl rfl)
theorem dX0_nearest_150 : decode cX0_nearest 150 = .ok (.goto 12, 3) := dk_167 0 12 (dk_at dksX0_nearest_6 12 rfl rfl)
theorem dX0_nearest_153 : decode cX0_nearest 153 = .ok (.iload_n 3, 1) := dk_29 (dk_at dksX0_nearest_6 15 rfl rfl)
theorem dX0_nearest_154 : decode cX0_nearest 154 = .ok (.aload_n 0, 1) := dk_42 (dk_at dksX0_nearest_6 16 rfl rfl)
theorem dX0_nearest_155 : decode cX0_nearest 155 = .ok (.getfield 31, 3) := dk_180 0 31 (dk_at dksX0_nearest_6 17 rfl rfl)
theorem dX0_nearest_158 : decode cX0_nearest 158 = .ok (.getfield 154, 3) := dk_180 0 154 (dk_at dksX0_nearest_6 20 rfl rfl)
theorem dX0_nearest_161 : decode cX0_nearest 161 = .ok (.idiv, 1) := dk_108 (dk_at dksX0_nearest_6 23 rfl rfl)
theorem dX0_nearest_162 : decode cX0_nearest 162 = .ok (.ireturn, 1) := dk_172 (dk_at dksX0_nearest_7 0 rfl rfl)
abbrev cX0_common : ByteArray := prog_1_method_45_code
def yX0_common : MethodName := ⟨RX0, "common", "(I)I"⟩
def dkwX0_common_5 : List UInt8 := [4, 160, 0, 7, 29, 167, 0, 5, 21, 4, 172]
abbrev dktX0_common_5 : List UInt8 := dkwX0_common_5 ++ []
def dkwX0_common_4 : List UInt8 := [180, 0, 183, 21, 5, 46, 126, 54, 4, 132, 5, 1, 167, 255, 226, 27, 154, 0, 7, 28, 167, 0, 14, 27]
abbrev dktX0_common_4 : List UInt8 := dkwX0_common_4 ++ dktX0_common_5
def dkwX0_common_3 : List UInt8 := [167, 255, 215, 3, 54, 5, 21, 5, 42, 180, 0, 31, 180, 0, 180, 162, 0, 24, 21, 4, 42, 180, 0, 31]
abbrev dktX0_common_3 : List UInt8 := dkwX0_common_3 ++ dktX0_common_4
def dkwX0_common_2 : List UInt8 := [180, 0, 164, 21, 5, 46, 126, 61, 29, 42, 180, 0, 31, 180, 0, 164, 21, 5, 46, 128, 62, 132, 5, 1]
abbrev dktX0_common_2 : List UInt8 := dkwX0_common_2 ++ dktX0_common_3
def dkwX0_common_1 : List UInt8 := [4, 100, 54, 4, 3, 54, 5, 21, 5, 42, 180, 0, 31, 180, 0, 154, 162, 0, 35, 28, 42, 180, 0, 31]
abbrev dktX0_common_1 : List UInt8 := dkwX0_common_1 ++ dktX0_common_2
def dkwX0_common_0 : List UInt8 := [27, 3, 5, 184, 0, 150, 154, 0, 5, 2, 172, 42, 182, 0, 157, 4, 100, 61, 3, 62, 42, 182, 0, 157]
abbrev dktX0_common_0 : List UInt8 := dkwX0_common_0 ++ dktX0_common_1
theorem dksX0_common_0 : cX0_common.data.toList.drop 0 = dktX0_common_0 := by decide +kernel
theorem dksX0_common_1 : cX0_common.data.toList.drop 24 = dktX0_common_1 := dk_seg dksX0_common_0 24 rfl rfl
theorem dksX0_common_2 : cX0_common.data.toList.drop 48 = dktX0_common_2 := dk_seg dksX0_common_1 24 rfl rfl
theorem dksX0_common_3 : cX0_common.data.toList.drop 72 = dktX0_common_3 := dk_seg dksX0_common_2 24 rfl rfl
theorem dksX0_common_4 : cX0_common.data.toList.drop 96 = dktX0_common_4 := dk_seg dksX0_common_3 24 rfl rfl
theorem dksX0_common_5 : cX0_common.data.toList.drop 120 = dktX0_common_5 := dk_seg dksX0_common_4 24 rfl rfl
theorem dX0_common_0 : decode cX0_common 0 = .ok (.iload_n 1, 1) := dk_27 (dk_at dksX0_common_0 0 rfl rfl)
theorem dX0_common_1 : decode cX0_common 1 = .ok (.iconst 0, 1) := dk_3 (dk_at dksX0_common_0 1 rfl rfl)
theorem dX0_common_2 : decode cX0_common 2 = .ok (.iconst 2, 1) := dk_5 (dk_at dksX0_common_0 2 rfl rfl)
theorem dX0_common_3 : decode cX0_common 3 = .ok (.invokestatic 150, 3) := dk_184 0 150 (dk_at dksX0_common_0 3 rfl rfl)
theorem dX0_common_6 : decode cX0_common 6 = .ok (.ifCond .ne 5, 3) := dk_154 0 5 (dk_at dksX0_common_0 6 rfl rfl)
theorem dX0_common_9 : decode cX0_common 9 = .ok (.iconst (-1), 1) := dk_2 (dk_at dksX0_common_0 9 rfl rfl)
theorem dX0_common_10 : decode cX0_common 10 = .ok (.ireturn, 1) := dk_172 (dk_at dksX0_common_0 10 rfl rfl)
theorem dX0_common_11 : decode cX0_common 11 = .ok (.aload_n 0, 1) := dk_42 (dk_at dksX0_common_0 11 rfl rfl)
theorem dX0_common_12 : decode cX0_common 12 = .ok (.invokevirtual 157, 3) := dk_182 0 157 (dk_at dksX0_common_0 12 rfl rfl)
theorem dX0_common_15 : decode cX0_common 15 = .ok (.iconst 1, 1) := dk_4 (dk_at dksX0_common_0 15 rfl rfl)
theorem dX0_common_16 : decode cX0_common 16 = .ok (.isub, 1) := dk_100 (dk_at dksX0_common_0 16 rfl rfl)
theorem dX0_common_17 : decode cX0_common 17 = .ok (.istore_n 2, 1) := dk_61 (dk_at dksX0_common_0 17 rfl rfl)
theorem dX0_common_18 : decode cX0_common 18 = .ok (.iconst 0, 1) := dk_3 (dk_at dksX0_common_0 18 rfl rfl)
theorem dX0_common_19 : decode cX0_common 19 = .ok (.istore_n 3, 1) := dk_62 (dk_at dksX0_common_0 19 rfl rfl)
theorem dX0_common_20 : decode cX0_common 20 = .ok (.aload_n 0, 1) := dk_42 (dk_at dksX0_common_0 20 rfl rfl)
theorem dX0_common_21 : decode cX0_common 21 = .ok (.invokevirtual 157, 3) := dk_182 0 157 (dk_at dksX0_common_0 21 rfl rfl)
theorem dX0_common_24 : decode cX0_common 24 = .ok (.iconst 1, 1) := dk_4 (dk_at dksX0_common_1 0 rfl rfl)
theorem dX0_common_25 : decode cX0_common 25 = .ok (.isub, 1) := dk_100 (dk_at dksX0_common_1 1 rfl rfl)
theorem dX0_common_26 : decode cX0_common 26 = .ok (.istore 4, 2) := dk_54 4 (dk_at dksX0_common_1 2 rfl rfl)
theorem dX0_common_28 : decode cX0_common 28 = .ok (.iconst 0, 1) := dk_3 (dk_at dksX0_common_1 4 rfl rfl)
theorem dX0_common_29 : decode cX0_common 29 = .ok (.istore 5, 2) := dk_54 5 (dk_at dksX0_common_1 5 rfl rfl)
theorem dX0_common_31 : decode cX0_common 31 = .ok (.iload 5, 2) := dk_21 5 (dk_at dksX0_common_1 7 rfl rfl)
theorem dX0_common_33 : decode cX0_common 33 = .ok (.aload_n 0, 1) := dk_42 (dk_at dksX0_common_1 9 rfl rfl)
theorem dX0_common_34 : decode cX0_common 34 = .ok (.getfield 31, 3) := dk_180 0 31 (dk_at dksX0_common_1 10 rfl rfl)
theorem dX0_common_37 : decode cX0_common 37 = .ok (.getfield 154, 3) := dk_180 0 154 (dk_at dksX0_common_1 13 rfl rfl)
theorem dX0_common_40 : decode cX0_common 40 = .ok (.if_icmp .ge 35, 3) := dk_162 0 35 (dk_at dksX0_common_1 16 rfl rfl)
theorem dX0_common_43 : decode cX0_common 43 = .ok (.iload_n 2, 1) := dk_28 (dk_at dksX0_common_1 19 rfl rfl)
theorem dX0_common_44 : decode cX0_common 44 = .ok (.aload_n 0, 1) := dk_42 (dk_at dksX0_common_1 20 rfl rfl)
theorem dX0_common_45 : decode cX0_common 45 = .ok (.getfield 31, 3) := dk_180 0 31 (dk_at dksX0_common_1 21 rfl rfl)
theorem dX0_common_48 : decode cX0_common 48 = .ok (.getfield 164, 3) := dk_180 0 164 (dk_at dksX0_common_2 0 rfl rfl)
theorem dX0_common_51 : decode cX0_common 51 = .ok (.iload 5, 2) := dk_21 5 (dk_at dksX0_common_2 3 rfl rfl)
theorem dX0_common_53 : decode cX0_common 53 = .ok (.iaload, 1) := dk_46 (dk_at dksX0_common_2 5 rfl rfl)
theorem dX0_common_54 : decode cX0_common 54 = .ok (.iand, 1) := dk_126 (dk_at dksX0_common_2 6 rfl rfl)
theorem dX0_common_55 : decode cX0_common 55 = .ok (.istore_n 2, 1) := dk_61 (dk_at dksX0_common_2 7 rfl rfl)
theorem dX0_common_56 : decode cX0_common 56 = .ok (.iload_n 3, 1) := dk_29 (dk_at dksX0_common_2 8 rfl rfl)
theorem dX0_common_57 : decode cX0_common 57 = .ok (.aload_n 0, 1) := dk_42 (dk_at dksX0_common_2 9 rfl rfl)
theorem dX0_common_58 : decode cX0_common 58 = .ok (.getfield 31, 3) := dk_180 0 31 (dk_at dksX0_common_2 10 rfl rfl)
theorem dX0_common_61 : decode cX0_common 61 = .ok (.getfield 164, 3) := dk_180 0 164 (dk_at dksX0_common_2 13 rfl rfl)
theorem dX0_common_64 : decode cX0_common 64 = .ok (.iload 5, 2) := dk_21 5 (dk_at dksX0_common_2 16 rfl rfl)
theorem dX0_common_66 : decode cX0_common 66 = .ok (.iaload, 1) := dk_46 (dk_at dksX0_common_2 18 rfl rfl)
theorem dX0_common_67 : decode cX0_common 67 = .ok (.ior, 1) := dk_128 (dk_at dksX0_common_2 19 rfl rfl)
theorem dX0_common_68 : decode cX0_common 68 = .ok (.istore_n 3, 1) := dk_62 (dk_at dksX0_common_2 20 rfl rfl)
theorem dX0_common_69 : decode cX0_common 69 = .ok (.iinc 5 1, 3) := dk_132 5 1 (dk_at dksX0_common_2 21 rfl rfl)
theorem dX0_common_72 : decode cX0_common 72 = .ok (.goto (-41), 3) := dk_167 255 215 (dk_at dksX0_common_3 0 rfl rfl)
theorem dX0_common_75 : decode cX0_common 75 = .ok (.iconst 0, 1) := dk_3 (dk_at dksX0_common_3 3 rfl rfl)
theorem dX0_common_76 : decode cX0_common 76 = .ok (.istore 5, 2) := dk_54 5 (dk_at dksX0_common_3 4 rfl rfl)
theorem dX0_common_78 : decode cX0_common 78 = .ok (.iload 5, 2) := dk_21 5 (dk_at dksX0_common_3 6 rfl rfl)
theorem dX0_common_80 : decode cX0_common 80 = .ok (.aload_n 0, 1) := dk_42 (dk_at dksX0_common_3 8 rfl rfl)
theorem dX0_common_81 : decode cX0_common 81 = .ok (.getfield 31, 3) := dk_180 0 31 (dk_at dksX0_common_3 9 rfl rfl)
theorem dX0_common_84 : decode cX0_common 84 = .ok (.getfield 180, 3) := dk_180 0 180 (dk_at dksX0_common_3 12 rfl rfl)
theorem dX0_common_87 : decode cX0_common 87 = .ok (.if_icmp .ge 24, 3) := dk_162 0 24 (dk_at dksX0_common_3 15 rfl rfl)
theorem dX0_common_90 : decode cX0_common 90 = .ok (.iload 4, 2) := dk_21 4 (dk_at dksX0_common_3 18 rfl rfl)
theorem dX0_common_92 : decode cX0_common 92 = .ok (.aload_n 0, 1) := dk_42 (dk_at dksX0_common_3 20 rfl rfl)
theorem dX0_common_93 : decode cX0_common 93 = .ok (.getfield 31, 3) := dk_180 0 31 (dk_at dksX0_common_3 21 rfl rfl)
theorem dX0_common_96 : decode cX0_common 96 = .ok (.getfield 183, 3) := dk_180 0 183 (dk_at dksX0_common_4 0 rfl rfl)
theorem dX0_common_99 : decode cX0_common 99 = .ok (.iload 5, 2) := dk_21 5 (dk_at dksX0_common_4 3 rfl rfl)
theorem dX0_common_101 : decode cX0_common 101 = .ok (.iaload, 1) := dk_46 (dk_at dksX0_common_4 5 rfl rfl)
theorem dX0_common_102 : decode cX0_common 102 = .ok (.iand, 1) := dk_126 (dk_at dksX0_common_4 6 rfl rfl)
theorem dX0_common_103 : decode cX0_common 103 = .ok (.istore 4, 2) := dk_54 4 (dk_at dksX0_common_4 7 rfl rfl)
theorem dX0_common_105 : decode cX0_common 105 = .ok (.iinc 5 1, 3) := dk_132 5 1 (dk_at dksX0_common_4 9 rfl rfl)
theorem dX0_common_108 : decode cX0_common 108 = .ok (.goto (-30), 3) := dk_167 255 226 (dk_at dksX0_common_4 12 rfl rfl)
theorem dX0_common_111 : decode cX0_common 111 = .ok (.iload_n 1, 1) := dk_27 (dk_at dksX0_common_4 15 rfl rfl)
theorem dX0_common_112 : decode cX0_common 112 = .ok (.ifCond .ne 7, 3) := dk_154 0 7 (dk_at dksX0_common_4 16 rfl rfl)
theorem dX0_common_115 : decode cX0_common 115 = .ok (.iload_n 2, 1) := dk_28 (dk_at dksX0_common_4 19 rfl rfl)
theorem dX0_common_116 : decode cX0_common 116 = .ok (.goto 14, 3) := dk_167 0 14 (dk_at dksX0_common_4 20 rfl rfl)
theorem dX0_common_119 : decode cX0_common 119 = .ok (.iload_n 1, 1) := dk_27 (dk_at dksX0_common_4 23 rfl rfl)
theorem dX0_common_120 : decode cX0_common 120 = .ok (.iconst 1, 1) := dk_4 (dk_at dksX0_common_5 0 rfl rfl)
theorem dX0_common_121 : decode cX0_common 121 = .ok (.if_icmp .ne 7, 3) := dk_160 0 7 (dk_at dksX0_common_5 1 rfl rfl)
theorem dX0_common_124 : decode cX0_common 124 = .ok (.iload_n 3, 1) := dk_29 (dk_at dksX0_common_5 4 rfl rfl)
theorem dX0_common_125 : decode cX0_common 125 = .ok (.goto 5, 3) := dk_167 0 5 (dk_at dksX0_common_5 5 rfl rfl)
theorem dX0_common_128 : decode cX0_common 128 = .ok (.iload 4, 2) := dk_21 4 (dk_at dksX0_common_5 8 rfl rfl)
theorem dX0_common_130 : decode cX0_common 130 = .ok (.ireturn, 1) := dk_172 (dk_at dksX0_common_5 10 rfl rfl)
