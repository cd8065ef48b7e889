/-! SealCasts$Reader -/
set_option maxRecDepth 100000
def RX5 : String := "SealCasts$Reader"
def TX5 : u_T := fun k => match k with
  | 0 => ("SealCasts$Reader", "at", "I", false)
  | 1 => ("SealCasts$Reader", "sort", "I", false)
  | 2 => ("SealCasts$Reader", "place", "I", false)
  | 3 => ("SealCasts$Reader", "number", "I", false)
  | 4 => ("SealCasts$Reader", "deep", "I", false)
  | 5 => ("SealCasts$Reader", "own", "I", false)
  | 6 => ("SealCasts$Reader", "hasLine", "Z", false)
  | 7 => ("SealCasts$Reader", "hasFirst", "Z", false)
  | 8 => ("SealCasts$Reader", "hasWax", "Z", false)
  | 9 => ("SealCasts$Reader", "hasDraw", "Z", false)
  | 10 => ("SealCasts$Reader", "word", "Ljava/lang/String;", false)
  | 11 => ("SealCasts$Reader", "made", "LSealCasts$Book;", true)
  | _ => ("SealCasts$Reader", "this$0", "LSealCasts;", true)
def tyX5 : Nat → FieldType := fun k => match k with
  | 0 => .int
  | 1 => .int
  | 2 => .int
  | 3 => .int
  | 4 => .int
  | 5 => .int
  | 6 => .boolean
  | 7 => .boolean
  | 8 => .boolean
  | 9 => .boolean
  | 10 => .object "java/lang/String"
  | 11 => .object "SealCasts$Book"
  | _ => .object "SealCasts"
abbrev wsX50 : List Cond := u_ws RX5 TX5 13
set_option maxRecDepth 100000 in
theorem nmX5 : ∀ a, a < 13 → ∀ b, b < 13 → a ≠ b → (TX5 a).2.1 ≠ (TX5 b).2.1 := by decide +kernel
set_option maxRecDepth 100000 in
theorem tyX5_ok : ∀ k, k < 13 → parseFieldDescriptor (TX5 k).2.2.1 = some (tyX5 k) := by decide +kernel
abbrev cX5_init : ByteArray := prog_21_method_1_code
def yX5_init : MethodName := ⟨RX5, "<init>", "(LSealCasts;)V"⟩
def dkwX5_init_1 : List UInt8 := [181, 0, 24, 177]
abbrev dktX5_init_1 : List UInt8 := dkwX5_init_1 ++ []
def dkwX5_init_0 : List UInt8 := [42, 43, 181, 0, 3, 42, 183, 0, 9, 42, 18, 15, 181, 0, 17, 42, 187, 0, 21, 89, 183, 0, 23]
abbrev dktX5_init_0 : List UInt8 := dkwX5_init_0 ++ dktX5_init_1
theorem dksX5_init_0 : cX5_init.data.toList.drop 0 = dktX5_init_0 := by decide +kernel
theorem dksX5_init_1 : cX5_init.data.toList.drop 23 = dktX5_init_1 := dk_seg dksX5_init_0 23 rfl rfl
theorem dX5_init_0 : decode cX5_init 0 = .ok (.aload_n 0, 1) := dk_42 (dk_at dksX5_init_0 0 rfl rfl)
theorem dX5_init_1 : decode cX5_init 1 = .ok (.aload_n 1, 1) := dk_43 (dk_at dksX5_init_0 1 rfl rfl)
theorem dX5_init_2 : decode cX5_init 2 = .ok (.putfield 3, 3) := dk_181 0 3 (dk_at dksX5_init_0 2 rfl rfl)
theorem dX5_init_5 : decode cX5_init 5 = .ok (.aload_n 0, 1) := dk_42 (dk_at dksX5_init_0 5 rfl rfl)
theorem dX5_init_6 : decode cX5_init 6 = .ok (.invokespecial 9, 3) := dk_183 0 9 (dk_at dksX5_init_0 6 rfl rfl)
theorem dX5_init_9 : decode cX5_init 9 = .ok (.aload_n 0, 1) := dk_42 (dk_at dksX5_init_0 9 rfl rfl)
theorem dX5_init_10 : decode cX5_init 10 = .ok (.ldc 15, 2) := dk_18 15 (dk_at dksX5_init_0 10 rfl rfl)
theorem dX5_init_12 : decode cX5_init 12 = .ok (.putfield 17, 3) := dk_181 0 17 (dk_at dksX5_init_0 12 rfl rfl)
theorem dX5_init_15 : decode cX5_init 15 = .ok (.aload_n 0, 1) := dk_42 (dk_at dksX5_init_0 15 rfl rfl)
theorem dX5_init_16 : decode cX5_init 16 = .ok (.new 21, 3) := dk_187 0 21 (dk_at dksX5_init_0 16 rfl rfl)
theorem dX5_init_19 : decode cX5_init 19 = .ok (.dup, 1) := dk_89 (dk_at dksX5_init_0 19 rfl rfl)
theorem dX5_init_20 : decode cX5_init 20 = .ok (.invokespecial 23, 3) := dk_183 0 23 (dk_at dksX5_init_0 20 rfl rfl)
theorem dX5_init_23 : decode cX5_init 23 = .ok (.putfield 24, 3) := dk_181 0 24 (dk_at dksX5_init_1 0 rfl rfl)
theorem dX5_init_26 : decode cX5_init 26 = .ok (.return_, 1) := dk_177 (dk_at dksX5_init_1 3 rfl rfl)
abbrev cX5_text : ByteArray := prog_21_method_13_code
def yX5_text : MethodName := ⟨RX5, "text", "()LSealCasts$Book;"⟩
def dkwX5_text_1 : List UInt8 := [42, 182, 0, 96, 191, 42, 182, 0, 90, 42, 4, 181, 0, 141, 167, 255, 222, 42, 180, 0, 24, 176]
abbrev dktX5_text_1 : List UInt8 := dkwX5_text_1 ++ []
def dkwX5_text_0 : List UInt8 := [42, 182, 0, 90, 42, 180, 0, 46, 153, 0, 33, 42, 182, 0, 138, 42, 180, 0, 46, 16, 59, 159, 0, 8]
abbrev dktX5_text_0 : List UInt8 := dkwX5_text_0 ++ dktX5_text_1
theorem dksX5_text_0 : cX5_text.data.toList.drop 0 = dktX5_text_0 := by decide +kernel
theorem dksX5_text_1 : cX5_text.data.toList.drop 24 = dktX5_text_1 := dk_seg dksX5_text_0 24 rfl rfl
theorem dX5_text_0 : decode cX5_text 0 = .ok (.aload_n 0, 1) := dk_42 (dk_at dksX5_text_0 0 rfl rfl)
theorem dX5_text_1 : decode cX5_text 1 = .ok (.invokevirtual 90, 3) := dk_182 0 90 (dk_at dksX5_text_0 1 rfl rfl)
theorem dX5_text_4 : decode cX5_text 4 = .ok (.aload_n 0, 1) := dk_42 (dk_at dksX5_text_0 4 rfl rfl)
theorem dX5_text_5 : decode cX5_text 5 = .ok (.getfield 46, 3) := dk_180 0 46 (dk_at dksX5_text_0 5 rfl rfl)
theorem dX5_text_8 : decode cX5_text 8 = .ok (.ifCond .eq 33, 3) := dk_153 0 33 (dk_at dksX5_text_0 8 rfl rfl)
theorem dX5_text_11 : decode cX5_text 11 = .ok (.aload_n 0, 1) := dk_42 (dk_at dksX5_text_0 11 rfl rfl)
theorem dX5_text_12 : decode cX5_text 12 = .ok (.invokevirtual 138, 3) := dk_182 0 138 (dk_at dksX5_text_0 12 rfl rfl)
theorem dX5_text_15 : decode cX5_text 15 = .ok (.aload_n 0, 1) := dk_42 (dk_at dksX5_text_0 15 rfl rfl)
theorem dX5_text_16 : decode cX5_text 16 = .ok (.getfield 46, 3) := dk_180 0 46 (dk_at dksX5_text_0 16 rfl rfl)
theorem dX5_text_19 : decode cX5_text 19 = .ok (.bipush 59, 2) := dk_16 59 (dk_at dksX5_text_0 19 rfl rfl)
theorem dX5_text_21 : decode cX5_text 21 = .ok (.if_icmp .eq 8, 3) := dk_159 0 8 (dk_at dksX5_text_0 21 rfl rfl)
theorem dX5_text_24 : decode cX5_text 24 = .ok (.aload_n 0, 1) := dk_42 (dk_at dksX5_text_1 0 rfl rfl)
theorem dX5_text_25 : decode cX5_text 25 = .ok (.invokevirtual 96, 3) := dk_182 0 96 (dk_at dksX5_text_1 1 rfl rfl)
theorem dX5_text_28 : decode cX5_text 28 = .ok (.athrow, 1) := dk_191 (dk_at dksX5_text_1 4 rfl rfl)
theorem dX5_text_29 : decode cX5_text 29 = .ok (.aload_n 0, 1) := dk_42 (dk_at dksX5_text_1 5 rfl rfl)
theorem dX5_text_30 : decode cX5_text 30 = .ok (.invokevirtual 90, 3) := dk_182 0 90 (dk_at dksX5_text_1 6 rfl rfl)
theorem dX5_text_33 : decode cX5_text 33 = .ok (.aload_n 0, 1) := dk_42 (dk_at dksX5_text_1 9 rfl rfl)
theorem dX5_text_34 : decode cX5_text 34 = .ok (.iconst 1, 1) := dk_4 (dk_at dksX5_text_1 10 rfl rfl)
theorem dX5_text_35 : decode cX5_text 35 = .ok (.putfield 141, 3) := dk_181 0 141 (dk_at dksX5_text_1 11 rfl rfl)
theorem dX5_text_38 : decode cX5_text 38 = .ok (.goto (-34), 3) := dk_167 255 222 (dk_at dksX5_text_1 14 rfl rfl)
theorem dX5_text_41 : decode cX5_text 41 = .ok (.aload_n 0, 1) := dk_42 (dk_at dksX5_text_1 17 rfl rfl)
theorem dX5_text_42 : decode cX5_text 42 = .ok (.getfield 24, 3) := dk_180 0 24 (dk_at dksX5_text_1 18 rfl rfl)
theorem dX5_text_45 : decode cX5_text 45 = .ok (.areturn, 1) := dk_176 (dk_at dksX5_text_1 21 rfl rfl)
abbrev cX5_go : ByteArray := prog_21_method_6_code
def yX5_go : MethodName := ⟨RX5, "go", "()V"⟩
def dkwX5_go_10 : List UInt8 := [181, 0, 28, 177]
abbrev dktX5_go_10 : List UInt8 := dkwX5_go_10 ++ []
def dkwX5_go_9 : List UInt8 := [167, 0, 17, 27, 184, 0, 72, 153, 0, 10, 42, 27, 181, 0, 46, 4, 61, 42, 89, 180, 0, 28, 28, 96]
abbrev dktX5_go_9 : List UInt8 := dkwX5_go_9 ++ dktX5_go_10
def dkwX5_go_8 : List UInt8 := [167, 255, 220, 28, 7, 163, 0, 11, 42, 28, 182, 0, 49, 153, 0, 4, 177, 42, 5, 181, 0, 46]
abbrev dktX5_go_8 : List UInt8 := dkwX5_go_8 ++ dktX5_go_9
def dkwX5_go_7 : List UInt8 := [42, 16, 10, 42, 180, 0, 69, 104, 42, 28, 182, 0, 39, 96, 16, 48, 100, 181, 0, 69, 132, 2, 1]
abbrev dktX5_go_7 : List UInt8 := dkwX5_go_7 ++ dktX5_go_8
def dkwX5_go_6 : List UInt8 := [182, 0, 66, 153, 0, 69, 42, 3, 181, 0, 69, 42, 28, 182, 0, 66, 153, 0, 34, 28, 7, 162, 0, 23]
abbrev dktX5_go_6 : List UInt8 := dkwX5_go_6 ++ dktX5_go_7
def dkwX5_go_5 : List UInt8 := [16, 8, 164, 0, 4, 177, 42, 45, 182, 0, 62, 181, 0, 17, 42, 4, 181, 0, 46, 167, 0, 91, 42, 3]
abbrev dktX5_go_5 : List UInt8 := dkwX5_go_5 ++ dktX5_go_6
def dkwX5_go_4 : List UInt8 := [28, 16, 8, 162, 0, 14, 45, 42, 28, 182, 0, 39, 146, 182, 0, 58, 87, 132, 2, 1, 167, 255, 228, 28]
abbrev dktX5_go_4 : List UInt8 := dkwX5_go_4 ++ dktX5_go_5
def dkwX5_go_3 : List UInt8 := [182, 0, 49, 153, 0, 67, 187, 0, 53, 89, 16, 8, 183, 0, 55, 78, 42, 28, 182, 0, 49, 153, 0, 26]
abbrev dktX5_go_3 : List UInt8 := dkwX5_go_3 ++ dktX5_go_4
def dkwX5_go_2 : List UInt8 := [60, 3, 61, 42, 6, 181, 0, 46, 27, 156, 0, 11, 42, 3, 181, 0, 46, 167, 0, 163, 42, 3]
abbrev dktX5_go_2 : List UInt8 := dkwX5_go_2 ++ dktX5_go_3
def dkwX5_go_1 : List UInt8 := [180, 0, 28, 4, 96, 181, 0, 28, 167, 255, 226, 42, 42, 180, 0, 28, 181, 0, 43, 42, 3, 182, 0, 39]
abbrev dktX5_go_1 : List UInt8 := dkwX5_go_1 ++ dktX5_go_2
def dkwX5_go_0 : List UInt8 := [42, 3, 182, 0, 39, 16, 32, 159, 0, 13, 42, 3, 182, 0, 39, 16, 10, 160, 0, 16, 42, 89]
abbrev dktX5_go_0 : List UInt8 := dkwX5_go_0 ++ dktX5_go_1
theorem dksX5_go_0 : cX5_go.data.toList.drop 0 = dktX5_go_0 := by decide +kernel
theorem dksX5_go_1 : cX5_go.data.toList.drop 22 = dktX5_go_1 := dk_seg dksX5_go_0 22 rfl rfl
theorem dksX5_go_2 : cX5_go.data.toList.drop 46 = dktX5_go_2 := dk_seg dksX5_go_1 24 rfl rfl
theorem dksX5_go_3 : cX5_go.data.toList.drop 68 = dktX5_go_3 := dk_seg dksX5_go_2 22 rfl rfl
theorem dksX5_go_4 : cX5_go.data.toList.drop 92 = dktX5_go_4 := dk_seg dksX5_go_3 24 rfl rfl
theorem dksX5_go_5 : cX5_go.data.toList.drop 116 = dktX5_go_5 := dk_seg dksX5_go_4 24 rfl rfl
theorem dksX5_go_6 : cX5_go.data.toList.drop 140 = dktX5_go_6 := dk_seg dksX5_go_5 24 rfl rfl
theorem dksX5_go_7 : cX5_go.data.toList.drop 164 = dktX5_go_7 := dk_seg dksX5_go_6 24 rfl rfl
theorem dksX5_go_8 : cX5_go.data.toList.drop 187 = dktX5_go_8 := dk_seg dksX5_go_7 23 rfl rfl
theorem dksX5_go_9 : cX5_go.data.toList.drop 209 = dktX5_go_9 := dk_seg dksX5_go_8 22 rfl rfl
theorem dksX5_go_10 : cX5_go.data.toList.drop 233 = dktX5_go_10 := dk_seg dksX5_go_9 24 rfl rfl
theorem dX5_go_0 : decode cX5_go 0 = .ok (.aload_n 0, 1) := dk_42 (dk_at dksX5_go_0 0 rfl rfl)
theorem dX5_go_1 : decode cX5_go 1 = .ok (.iconst 0, 1) := dk_3 (dk_at dksX5_go_0 1 rfl rfl)
theorem dX5_go_2 : decode cX5_go 2 = .ok (.invokevirtual 39, 3) := dk_182 0 39 (dk_at dksX5_go_0 2 rfl rfl)
theorem dX5_go_5 : decode cX5_go 5 = .ok (.bipush 32, 2) := dk_16 32 (dk_at dksX5_go_0 5 rfl rfl)
theorem dX5_go_7 : decode cX5_go 7 = .ok (.if_icmp .eq 13, 3) := dk_159 0 13 (dk_at dksX5_go_0 7 rfl rfl)
theorem dX5_go_10 : decode cX5_go 10 = .ok (.aload_n 0, 1) := dk_42 (dk_at dksX5_go_0 10 rfl rfl)
theorem dX5_go_11 : decode cX5_go 11 = .ok (.iconst 0, 1) := dk_3 (dk_at dksX5_go_0 11 rfl rfl)
theorem dX5_go_12 : decode cX5_go 12 = .ok (.invokevirtual 39, 3) := dk_182 0 39 (dk_at dksX5_go_0 12 rfl rfl)
theorem dX5_go_15 : decode cX5_go 15 = .ok (.bipush 10, 2) := dk_16 10 (dk_at dksX5_go_0 15 rfl rfl)
theorem dX5_go_17 : decode cX5_go 17 = .ok (.if_icmp .ne 16, 3) := dk_160 0 16 (dk_at dksX5_go_0 17 rfl rfl)
theorem dX5_go_20 : decode cX5_go 20 = .ok (.aload_n 0, 1) := dk_42 (dk_at dksX5_go_0 20 rfl rfl)
theorem dX5_go_21 : decode cX5_go 21 = .ok (.dup, 1) := dk_89 (dk_at dksX5_go_0 21 rfl rfl)
theorem dX5_go_22 : decode cX5_go 22 = .ok (.getfield 28, 3) := dk_180 0 28 (dk_at dksX5_go_1 0 rfl rfl)
theorem dX5_go_25 : decode cX5_go 25 = .ok (.iconst 1, 1) := dk_4 (dk_at dksX5_go_1 3 rfl rfl)
theorem dX5_go_26 : decode cX5_go 26 = .ok (.iadd, 1) := dk_96 (dk_at dksX5_go_1 4 rfl rfl)
theorem dX5_go_27 : decode cX5_go 27 = .ok (.putfield 28, 3) := dk_181 0 28 (dk_at dksX5_go_1 5 rfl rfl)
theorem dX5_go_30 : decode cX5_go 30 = .ok (.goto (-30), 3) := dk_167 255 226 (dk_at dksX5_go_1 8 rfl rfl)
theorem dX5_go_33 : decode cX5_go 33 = .ok (.aload_n 0, 1) := dk_42 (dk_at dksX5_go_1 11 rfl rfl)
theorem dX5_go_34 : decode cX5_go 34 = .ok (.aload_n 0, 1) := dk_42 (dk_at dksX5_go_1 12 rfl rfl)
theorem dX5_go_35 : decode cX5_go 35 = .ok (.getfield 28, 3) := dk_180 0 28 (dk_at dksX5_go_1 13 rfl rfl)
theorem dX5_go_38 : decode cX5_go 38 = .ok (.putfield 43, 3) := dk_181 0 43 (dk_at dksX5_go_1 16 rfl rfl)
theorem dX5_go_41 : decode cX5_go 41 = .ok (.aload_n 0, 1) := dk_42 (dk_at dksX5_go_1 19 rfl rfl)
theorem dX5_go_42 : decode cX5_go 42 = .ok (.iconst 0, 1) := dk_3 (dk_at dksX5_go_1 20 rfl rfl)
theorem dX5_go_43 : decode cX5_go 43 = .ok (.invokevirtual 39, 3) := dk_182 0 39 (dk_at dksX5_go_1 21 rfl rfl)
theorem dX5_go_46 : decode cX5_go 46 = .ok (.istore_n 1, 1) := dk_60 (dk_at dksX5_go_2 0 rfl rfl)
theorem dX5_go_47 : decode cX5_go 47 = .ok (.iconst 0, 1) := dk_3 (dk_at dksX5_go_2 1 rfl rfl)
theorem dX5_go_48 : decode cX5_go 48 = .ok (.istore_n 2, 1) := dk_61 (dk_at dksX5_go_2 2 rfl rfl)
theorem dX5_go_49 : decode cX5_go 49 = .ok (.aload_n 0, 1) := dk_42 (dk_at dksX5_go_2 3 rfl rfl)
theorem dX5_go_50 : decode cX5_go 50 = .ok (.iconst 3, 1) := dk_6 (dk_at dksX5_go_2 4 rfl rfl)
theorem dX5_go_51 : decode cX5_go 51 = .ok (.putfield 46, 3) := dk_181 0 46 (dk_at dksX5_go_2 5 rfl rfl)
theorem dX5_go_54 : decode cX5_go 54 = .ok (.iload_n 1, 1) := dk_27 (dk_at dksX5_go_2 8 rfl rfl)
theorem dX5_go_55 : decode cX5_go 55 = .ok (.ifCond .ge 11, 3) := dk_156 0 11 (dk_at dksX5_go_2 9 rfl rfl)
theorem dX5_go_58 : decode cX5_go 58 = .ok (.aload_n 0, 1) := dk_42 (dk_at dksX5_go_2 12 rfl rfl)
theorem dX5_go_59 : decode cX5_go 59 = .ok (.iconst 0, 1) := dk_3 (dk_at dksX5_go_2 13 rfl rfl)
theorem dX5_go_60 : decode cX5_go 60 = .ok (.putfield 46, 3) := dk_181 0 46 (dk_at dksX5_go_2 14 rfl rfl)
theorem dX5_go_63 : decode cX5_go 63 = .ok (.goto 163, 3) := dk_167 0 163 (dk_at dksX5_go_2 17 rfl rfl)
theorem dX5_go_66 : decode cX5_go 66 = .ok (.aload_n 0, 1) := dk_42 (dk_at dksX5_go_2 20 rfl rfl)
theorem dX5_go_67 : decode cX5_go 67 = .ok (.iconst 0, 1) := dk_3 (dk_at dksX5_go_2 21 rfl rfl)
theorem dX5_go_68 : decode cX5_go 68 = .ok (.invokevirtual 49, 3) := dk_182 0 49 (dk_at dksX5_go_3 0 rfl rfl)
theorem dX5_go_71 : decode cX5_go 71 = .ok (.ifCond .eq 67, 3) := dk_153 0 67 (dk_at dksX5_go_3 3 rfl rfl)
theorem dX5_go_74 : decode cX5_go 74 = .ok (.new 53, 3) := dk_187 0 53 (dk_at dksX5_go_3 6 rfl rfl)
theorem dX5_go_77 : decode cX5_go 77 = .ok (.dup, 1) := dk_89 (dk_at dksX5_go_3 9 rfl rfl)
theorem dX5_go_78 : decode cX5_go 78 = .ok (.bipush 8, 2) := dk_16 8 (dk_at dksX5_go_3 10 rfl rfl)
theorem dX5_go_80 : decode cX5_go 80 = .ok (.invokespecial 55, 3) := dk_183 0 55 (dk_at dksX5_go_3 12 rfl rfl)
theorem dX5_go_83 : decode cX5_go 83 = .ok (.astore_n 3, 1) := dk_78 (dk_at dksX5_go_3 15 rfl rfl)
theorem dX5_go_84 : decode cX5_go 84 = .ok (.aload_n 0, 1) := dk_42 (dk_at dksX5_go_3 16 rfl rfl)
theorem dX5_go_85 : decode cX5_go 85 = .ok (.iload_n 2, 1) := dk_28 (dk_at dksX5_go_3 17 rfl rfl)
theorem dX5_go_86 : decode cX5_go 86 = .ok (.invokevirtual 49, 3) := dk_182 0 49 (dk_at dksX5_go_3 18 rfl rfl)
theorem dX5_go_89 : decode cX5_go 89 = .ok (.ifCond .eq 26, 3) := dk_153 0 26 (dk_at dksX5_go_3 21 rfl rfl)
theorem dX5_go_92 : decode cX5_go 92 = .ok (.iload_n 2, 1) := dk_28 (dk_at dksX5_go_4 0 rfl rfl)
theorem dX5_go_93 : decode cX5_go 93 = .ok (.bipush 8, 2) := dk_16 8 (dk_at dksX5_go_4 1 rfl rfl)
theorem dX5_go_95 : decode cX5_go 95 = .ok (.if_icmp .ge 14, 3) := dk_162 0 14 (dk_at dksX5_go_4 3 rfl rfl)
theorem dX5_go_98 : decode cX5_go 98 = .ok (.aload_n 3, 1) := dk_45 (dk_at dksX5_go_4 6 rfl rfl)
theorem dX5_go_99 : decode cX5_go 99 = .ok (.aload_n 0, 1) := dk_42 (dk_at dksX5_go_4 7 rfl rfl)
theorem dX5_go_100 : decode cX5_go 100 = .ok (.iload_n 2, 1) := dk_28 (dk_at dksX5_go_4 8 rfl rfl)
theorem dX5_go_101 : decode cX5_go 101 = .ok (.invokevirtual 39, 3) := dk_182 0 39 (dk_at dksX5_go_4 9 rfl rfl)
theorem dX5_go_104 : decode cX5_go 104 = .ok (.i2c, 1) := dk_146 (dk_at dksX5_go_4 12 rfl rfl)
theorem dX5_go_105 : decode cX5_go 105 = .ok (.invokevirtual 58, 3) := dk_182 0 58 (dk_at dksX5_go_4 13 rfl rfl)
theorem dX5_go_108 : decode cX5_go 108 = .ok (.pop, 1) := dk_87 (dk_at dksX5_go_4 16 rfl rfl)
theorem dX5_go_109 : decode cX5_go 109 = .ok (.iinc 2 1, 3) := dk_132 2 1 (dk_at dksX5_go_4 17 rfl rfl)
theorem dX5_go_112 : decode cX5_go 112 = .ok (.goto (-28), 3) := dk_167 255 228 (dk_at dksX5_go_4 20 rfl rfl)
theorem dX5_go_115 : decode cX5_go 115 = .ok (.iload_n 2, 1) := dk_28 (dk_at dksX5_go_4 23 rfl rfl)
theorem dX5_go_116 : decode cX5_go 116 = .ok (.bipush 8, 2) := dk_16 8 (dk_at dksX5_go_5 0 rfl rfl)
theorem dX5_go_118 : decode cX5_go 118 = .ok (.if_icmp .le 4, 3) := dk_164 0 4 (dk_at dksX5_go_5 2 rfl rfl)
theorem dX5_go_121 : decode cX5_go 121 = .ok (.return_, 1) := dk_177 (dk_at dksX5_go_5 5 rfl rfl)
theorem dX5_go_122 : decode cX5_go 122 = .ok (.aload_n 0, 1) := dk_42 (dk_at dksX5_go_5 6 rfl rfl)
theorem dX5_go_123 : decode cX5_go 123 = .ok (.aload_n 3, 1) := dk_45 (dk_at dksX5_go_5 7 rfl rfl)
theorem dX5_go_124 : decode cX5_go 124 = .ok (.invokevirtual 62, 3) := dk_182 0 62 (dk_at dksX5_go_5 8 rfl rfl)
theorem dX5_go_127 : decode cX5_go 127 = .ok (.putfield 17, 3) := dk_181 0 17 (dk_at dksX5_go_5 11 rfl rfl)
theorem dX5_go_130 : decode cX5_go 130 = .ok (.aload_n 0, 1) := dk_42 (dk_at dksX5_go_5 14 rfl rfl)
theorem dX5_go_131 : decode cX5_go 131 = .ok (.iconst 1, 1) := dk_4 (dk_at dksX5_go_5 15 rfl rfl)
theorem dX5_go_132 : decode cX5_go 132 = .ok (.putfield 46, 3) := dk_181 0 46 (dk_at dksX5_go_5 16 rfl rfl)
theorem dX5_go_135 : decode cX5_go 135 = .ok (.goto 91, 3) := dk_167 0 91 (dk_at dksX5_go_5 19 rfl rfl)
theorem dX5_go_138 : decode cX5_go 138 = .ok (.aload_n 0, 1) := dk_42 (dk_at dksX5_go_5 22 rfl rfl)
theorem dX5_go_139 : decode cX5_go 139 = .ok (.iconst 0, 1) := dk_3 (dk_at dksX5_go_5 23 rfl rfl)
theorem dX5_go_140 : decode cX5_go 140 = .ok (.invokevirtual 66, 3) := dk_182 0 66 (dk_at dksX5_go_6 0 rfl rfl)
theorem dX5_go_143 : decode cX5_go 143 = .ok (.ifCond .eq 69, 3) := dk_153 0 69 (dk_at dksX5_go_6 3 rfl rfl)
theorem dX5_go_146 : decode cX5_go 146 = .ok (.aload_n 0, 1) := dk_42 (dk_at dksX5_go_6 6 rfl rfl)
theorem dX5_go_147 : decode cX5_go 147 = .ok (.iconst 0, 1) := dk_3 (dk_at dksX5_go_6 7 rfl rfl)
theorem dX5_go_148 : decode cX5_go 148 = .ok (.putfield 69, 3) := dk_181 0 69 (dk_at dksX5_go_6 8 rfl rfl)
theorem dX5_go_151 : decode cX5_go 151 = .ok (.aload_n 0, 1) := dk_42 (dk_at dksX5_go_6 11 rfl rfl)
theorem dX5_go_152 : decode cX5_go 152 = .ok (.iload_n 2, 1) := dk_28 (dk_at dksX5_go_6 12 rfl rfl)
theorem dX5_go_153 : decode cX5_go 153 = .ok (.invokevirtual 66, 3) := dk_182 0 66 (dk_at dksX5_go_6 13 rfl rfl)
theorem dX5_go_156 : decode cX5_go 156 = .ok (.ifCond .eq 34, 3) := dk_153 0 34 (dk_at dksX5_go_6 16 rfl rfl)
theorem dX5_go_159 : decode cX5_go 159 = .ok (.iload_n 2, 1) := dk_28 (dk_at dksX5_go_6 19 rfl rfl)
theorem dX5_go_160 : decode cX5_go 160 = .ok (.iconst 4, 1) := dk_7 (dk_at dksX5_go_6 20 rfl rfl)
theorem dX5_go_161 : decode cX5_go 161 = .ok (.if_icmp .ge 23, 3) := dk_162 0 23 (dk_at dksX5_go_6 21 rfl rfl)
theorem dX5_go_164 : decode cX5_go 164 = .ok (.aload_n 0, 1) := dk_42 (dk_at dksX5_go_7 0 rfl rfl)
theorem dX5_go_165 : decode cX5_go 165 = .ok (.bipush 10, 2) := dk_16 10 (dk_at dksX5_go_7 1 rfl rfl)
theorem dX5_go_167 : decode cX5_go 167 = .ok (.aload_n 0, 1) := dk_42 (dk_at dksX5_go_7 3 rfl rfl)
theorem dX5_go_168 : decode cX5_go 168 = .ok (.getfield 69, 3) := dk_180 0 69 (dk_at dksX5_go_7 4 rfl rfl)
theorem dX5_go_171 : decode cX5_go 171 = .ok (.imul, 1) := dk_104 (dk_at dksX5_go_7 7 rfl rfl)
theorem dX5_go_172 : decode cX5_go 172 = .ok (.aload_n 0, 1) := dk_42 (dk_at dksX5_go_7 8 rfl rfl)
theorem dX5_go_173 : decode cX5_go 173 = .ok (.iload_n 2, 1) := dk_28 (dk_at dksX5_go_7 9 rfl rfl)
theorem dX5_go_174 : decode cX5_go 174 = .ok (.invokevirtual 39, 3) := dk_182 0 39 (dk_at dksX5_go_7 10 rfl rfl)
theorem dX5_go_177 : decode cX5_go 177 = .ok (.iadd, 1) := dk_96 (dk_at dksX5_go_7 13 rfl rfl)
theorem dX5_go_178 : decode cX5_go 178 = .ok (.bipush 48, 2) := dk_16 48 (dk_at dksX5_go_7 14 rfl rfl)
theorem dX5_go_180 : decode cX5_go 180 = .ok (.isub, 1) := dk_100 (dk_at dksX5_go_7 16 rfl rfl)
theorem dX5_go_181 : decode cX5_go 181 = .ok (.putfield 69, 3) := dk_181 0 69 (dk_at dksX5_go_7 17 rfl rfl)
theorem dX5_go_184 : decode cX5_go 184 = .ok (.iinc 2 1, 3) := dk_132 2 1 (dk_at dksX5_go_7 20 rfl rfl)
theorem dX5_go_187 : decode cX5_go 187 = .ok (.goto (-36), 3) := dk_167 255 220 (dk_at dksX5_go_8 0 rfl rfl)
theorem dX5_go_190 : decode cX5_go 190 = .ok (.iload_n 2, 1) := dk_28 (dk_at dksX5_go_8 3 rfl rfl)
theorem dX5_go_191 : decode cX5_go 191 = .ok (.iconst 4, 1) := dk_7 (dk_at dksX5_go_8 4 rfl rfl)
theorem dX5_go_192 : decode cX5_go 192 = .ok (.if_icmp .gt 11, 3) := dk_163 0 11 (dk_at dksX5_go_8 5 rfl rfl)
theorem dX5_go_195 : decode cX5_go 195 = .ok (.aload_n 0, 1) := dk_42 (dk_at dksX5_go_8 8 rfl rfl)
theorem dX5_go_196 : decode cX5_go 196 = .ok (.iload_n 2, 1) := dk_28 (dk_at dksX5_go_8 9 rfl rfl)
theorem dX5_go_197 : decode cX5_go 197 = .ok (.invokevirtual 49, 3) := dk_182 0 49 (dk_at dksX5_go_8 10 rfl rfl)
theorem dX5_go_200 : decode cX5_go 200 = .ok (.ifCond .eq 4, 3) := dk_153 0 4 (dk_at dksX5_go_8 13 rfl rfl)
theorem dX5_go_203 : decode cX5_go 203 = .ok (.return_, 1) := dk_177 (dk_at dksX5_go_8 16 rfl rfl)
theorem dX5_go_204 : decode cX5_go 204 = .ok (.aload_n 0, 1) := dk_42 (dk_at dksX5_go_8 17 rfl rfl)
theorem dX5_go_205 : decode cX5_go 205 = .ok (.iconst 2, 1) := dk_5 (dk_at dksX5_go_8 18 rfl rfl)
theorem dX5_go_206 : decode cX5_go 206 = .ok (.putfield 46, 3) := dk_181 0 46 (dk_at dksX5_go_8 19 rfl rfl)
theorem dX5_go_209 : decode cX5_go 209 = .ok (.goto 17, 3) := dk_167 0 17 (dk_at dksX5_go_9 0 rfl rfl)
theorem dX5_go_212 : decode cX5_go 212 = .ok (.iload_n 1, 1) := dk_27 (dk_at dksX5_go_9 3 rfl rfl)
theorem dX5_go_213 : decode cX5_go 213 = .ok (.invokestatic 72, 3) := dk_184 0 72 (dk_at dksX5_go_9 4 rfl rfl)
theorem dX5_go_216 : decode cX5_go 216 = .ok (.ifCond .eq 10, 3) := dk_153 0 10 (dk_at dksX5_go_9 7 rfl rfl)
theorem dX5_go_219 : decode cX5_go 219 = .ok (.aload_n 0, 1) := dk_42 (dk_at dksX5_go_9 10 rfl rfl)
theorem dX5_go_220 : decode cX5_go 220 = .ok (.iload_n 1, 1) := dk_27 (dk_at dksX5_go_9 11 rfl rfl)
theorem dX5_go_221 : decode cX5_go 221 = .ok (.putfield 46, 3) := dk_181 0 46 (dk_at dksX5_go_9 12 rfl rfl)
theorem dX5_go_224 : decode cX5_go 224 = .ok (.iconst 1, 1) := dk_4 (dk_at dksX5_go_9 15 rfl rfl)
theorem dX5_go_225 : decode cX5_go 225 = .ok (.istore_n 2, 1) := dk_61 (dk_at dksX5_go_9 16 rfl rfl)
theorem dX5_go_226 : decode cX5_go 226 = .ok (.aload_n 0, 1) := dk_42 (dk_at dksX5_go_9 17 rfl rfl)
theorem dX5_go_227 : decode cX5_go 227 = .ok (.dup, 1) := dk_89 (dk_at dksX5_go_9 18 rfl rfl)
theorem dX5_go_228 : decode cX5_go 228 = .ok (.getfield 28, 3) := dk_180 0 28 (dk_at dksX5_go_9 19 rfl rfl)
theorem dX5_go_231 : decode cX5_go 231 = .ok (.iload_n 2, 1) := dk_28 (dk_at dksX5_go_9 22 rfl rfl)
theorem dX5_go_232 : decode cX5_go 232 = .ok (.iadd, 1) := dk_96 (dk_at dksX5_go_9 23 rfl rfl)
theorem dX5_go_233 : decode cX5_go 233 = .ok (.putfield 28, 3) := dk_181 0 28 (dk_at dksX5_go_10 0 rfl rfl)
theorem dX5_go_236 : decode cX5_go 236 = .ok (.return_, 1) := dk_177 (dk_at dksX5_go_10 3 rfl rfl)
abbrev cX5_here : ByteArray := prog_21_method_2_code
def yX5_here : MethodName := ⟨RX5, "here", "(I)I"⟩
def dkwX5_here_1 : List UInt8 := [180, 0, 28, 27, 96, 51, 17, 0, 255, 126, 167, 0, 4, 2, 172]
abbrev dktX5_here_1 : List UInt8 := dkwX5_here_1 ++ []
def dkwX5_here_0 : List UInt8 := [42, 180, 0, 28, 27, 96, 42, 180, 0, 3, 180, 0, 32, 162, 0, 24, 42, 180, 0, 3, 180, 0, 35, 42]
abbrev dktX5_here_0 : List UInt8 := dkwX5_here_0 ++ dktX5_here_1
theorem dksX5_here_0 : cX5_here.data.toList.drop 0 = dktX5_here_0 := by decide +kernel
theorem dksX5_here_1 : cX5_here.data.toList.drop 24 = dktX5_here_1 := dk_seg dksX5_here_0 24 rfl rfl
theorem dX5_here_0 : decode cX5_here 0 = .ok (.aload_n 0, 1) := dk_42 (dk_at dksX5_here_0 0 rfl rfl)
theorem dX5_here_1 : decode cX5_here 1 = .ok (.getfield 28, 3) := dk_180 0 28 (dk_at dksX5_here_0 1 rfl rfl)
theorem dX5_here_4 : decode cX5_here 4 = .ok (.iload_n 1, 1) := dk_27 (dk_at dksX5_here_0 4 rfl rfl)
theorem dX5_here_5 : decode cX5_here 5 = .ok (.iadd, 1) := dk_96 (dk_at dksX5_here_0 5 rfl rfl)
theorem dX5_here_6 : decode cX5_here 6 = .ok (.aload_n 0, 1) := dk_42 (dk_at dksX5_here_0 6 rfl rfl)
theorem dX5_here_7 : decode cX5_here 7 = .ok (.getfield 3, 3) := dk_180 0 3 (dk_at dksX5_here_0 7 rfl rfl)
theorem dX5_here_10 : decode cX5_here 10 = .ok (.getfield 32, 3) := dk_180 0 32 (dk_at dksX5_here_0 10 rfl rfl)
theorem dX5_here_13 : decode cX5_here 13 = .ok (.if_icmp .ge 24, 3) := dk_162 0 24 (dk_at dksX5_here_0 13 rfl rfl)
theorem dX5_here_16 : decode cX5_here 16 = .ok (.aload_n 0, 1) := dk_42 (dk_at dksX5_here_0 16 rfl rfl)
theorem dX5_here_17 : decode cX5_here 17 = .ok (.getfield 3, 3) := dk_180 0 3 (dk_at dksX5_here_0 17 rfl rfl)
theorem dX5_here_20 : decode cX5_here 20 = .ok (.getfield 35, 3) := dk_180 0 35 (dk_at dksX5_here_0 20 rfl rfl)
theorem dX5_here_23 : decode cX5_here 23 = .ok (.aload_n 0, 1) := dk_42 (dk_at dksX5_here_0 23 rfl rfl)
theorem dX5_here_24 : decode cX5_here 24 = .ok (.getfield 28, 3) := dk_180 0 28 (dk_at dksX5_here_1 0 rfl rfl)
theorem dX5_here_27 : decode cX5_here 27 = .ok (.iload_n 1, 1) := dk_27 (dk_at dksX5_here_1 3 rfl rfl)
theorem dX5_here_28 : decode cX5_here 28 = .ok (.iadd, 1) := dk_96 (dk_at dksX5_here_1 4 rfl rfl)
theorem dX5_here_29 : decode cX5_here 29 = .ok (.baload, 1) := dk_51 (dk_at dksX5_here_1 5 rfl rfl)
theorem dX5_here_30 : decode cX5_here 30 = .ok (.sipush 255, 3) := dk_17 0 255 (dk_at dksX5_here_1 6 rfl rfl)
theorem dX5_here_33 : decode cX5_here 33 = .ok (.iand, 1) := dk_126 (dk_at dksX5_here_1 9 rfl rfl)
theorem dX5_here_34 : decode cX5_here 34 = .ok (.goto 4, 3) := dk_167 0 4 (dk_at dksX5_here_1 10 rfl rfl)
theorem dX5_here_37 : decode cX5_here 37 = .ok (.iconst (-1), 1) := dk_2 (dk_at dksX5_here_1 13 rfl rfl)
theorem dX5_here_38 : decode cX5_here 38 = .ok (.ireturn, 1) := dk_172 (dk_at dksX5_here_1 14 rfl rfl)
abbrev cX5_isLetter : ByteArray := prog_21_method_3_code
def yX5_isLetter : MethodName := ⟨RX5, "isLetter", "(I)Z"⟩
def dkwX5_isLetter_1 : List UInt8 := [3, 172]
abbrev dktX5_isLetter_1 : List UInt8 := dkwX5_isLetter_1 ++ []
def dkwX5_isLetter_0 : List UInt8 := [42, 27, 182, 0, 39, 16, 97, 161, 0, 17, 42, 27, 182, 0, 39, 16, 122, 163, 0, 7, 4, 167, 0, 4]
abbrev dktX5_isLetter_0 : List UInt8 := dkwX5_isLetter_0 ++ dktX5_isLetter_1
theorem dksX5_isLetter_0 : cX5_isLetter.data.toList.drop 0 = dktX5_isLetter_0 := by decide +kernel
theorem dksX5_isLetter_1 : cX5_isLetter.data.toList.drop 24 = dktX5_isLetter_1 := dk_seg dksX5_isLetter_0 24 rfl rfl
theorem dX5_isLetter_0 : decode cX5_isLetter 0 = .ok (.aload_n 0, 1) := dk_42 (dk_at dksX5_isLetter_0 0 rfl rfl)
theorem dX5_isLetter_1 : decode cX5_isLetter 1 = .ok (.iload_n 1, 1) := dk_27 (dk_at dksX5_isLetter_0 1 rfl rfl)
theorem dX5_isLetter_2 : decode cX5_isLetter 2 = .ok (.invokevirtual 39, 3) := dk_182 0 39 (dk_at dksX5_isLetter_0 2 rfl rfl)
theorem dX5_isLetter_5 : decode cX5_isLetter 5 = .ok (.bipush 97, 2) := dk_16 97 (dk_at dksX5_isLetter_0 5 rfl rfl)
theorem dX5_isLetter_7 : decode cX5_isLetter 7 = .ok (.if_icmp .lt 17, 3) := dk_161 0 17 (dk_at dksX5_isLetter_0 7 rfl rfl)
theorem dX5_isLetter_10 : decode cX5_isLetter 10 = .ok (.aload_n 0, 1) := dk_42 (dk_at dksX5_isLetter_0 10 rfl rfl)
theorem dX5_isLetter_11 : decode cX5_isLetter 11 = .ok (.iload_n 1, 1) := dk_27 (dk_at dksX5_isLetter_0 11 rfl rfl)
theorem dX5_isLetter_12 : decode cX5_isLetter 12 = .ok (.invokevirtual 39, 3) := dk_182 0 39 (dk_at dksX5_isLetter_0 12 rfl rfl)
theorem dX5_isLetter_15 : decode cX5_isLetter 15 = .ok (.bipush 122, 2) := dk_16 122 (dk_at dksX5_isLetter_0 15 rfl rfl)
theorem dX5_isLetter_17 : decode cX5_isLetter 17 = .ok (.if_icmp .gt 7, 3) := dk_163 0 7 (dk_at dksX5_isLetter_0 17 rfl rfl)
theorem dX5_isLetter_20 : decode cX5_isLetter 20 = .ok (.iconst 1, 1) := dk_4 (dk_at dksX5_isLetter_0 20 rfl rfl)
theorem dX5_isLetter_21 : decode cX5_isLetter 21 = .ok (.goto 4, 3) := dk_167 0 4 (dk_at dksX5_isLetter_0 21 rfl rfl)
theorem dX5_isLetter_24 : decode cX5_isLetter 24 = .ok (.iconst 0, 1) := dk_3 (dk_at dksX5_isLetter_1 0 rfl rfl)
theorem dX5_isLetter_25 : decode cX5_isLetter 25 = .ok (.ireturn, 1) := dk_172 (dk_at dksX5_isLetter_1 1 rfl rfl)
abbrev cX5_isDigit : ByteArray := prog_21_method_4_code
def yX5_isDigit : MethodName := ⟨RX5, "isDigit", "(I)Z"⟩
def dkwX5_isDigit_1 : List UInt8 := [3, 172]
abbrev dktX5_isDigit_1 : List UInt8 := dkwX5_isDigit_1 ++ []
def dkwX5_isDigit_0 : List UInt8 := [42, 27, 182, 0, 39, 16, 48, 161, 0, 17, 42, 27, 182, 0, 39, 16, 57, 163, 0, 7, 4, 167, 0, 4]
abbrev dktX5_isDigit_0 : List UInt8 := dkwX5_isDigit_0 ++ dktX5_isDigit_1
theorem dksX5_isDigit_0 : cX5_isDigit.data.toList.drop 0 = dktX5_isDigit_0 := by decide +kernel
theorem dksX5_isDigit_1 : cX5_isDigit.data.toList.drop 24 = dktX5_isDigit_1 := dk_seg dksX5_isDigit_0 24 rfl rfl
theorem dX5_isDigit_0 : decode cX5_isDigit 0 = .ok (.aload_n 0, 1) := dk_42 (dk_at dksX5_isDigit_0 0 rfl rfl)
theorem dX5_isDigit_1 : decode cX5_isDigit 1 = .ok (.iload_n 1, 1) := dk_27 (dk_at dksX5_isDigit_0 1 rfl rfl)
theorem dX5_isDigit_2 : decode cX5_isDigit 2 = .ok (.invokevirtual 39, 3) := dk_182 0 39 (dk_at dksX5_isDigit_0 2 rfl rfl)
theorem dX5_isDigit_5 : decode cX5_isDigit 5 = .ok (.bipush 48, 2) := dk_16 48 (dk_at dksX5_isDigit_0 5 rfl rfl)
theorem dX5_isDigit_7 : decode cX5_isDigit 7 = .ok (.if_icmp .lt 17, 3) := dk_161 0 17 (dk_at dksX5_isDigit_0 7 rfl rfl)
theorem dX5_isDigit_10 : decode cX5_isDigit 10 = .ok (.aload_n 0, 1) := dk_42 (dk_at dksX5_isDigit_0 10 rfl rfl)
theorem dX5_isDigit_11 : decode cX5_isDigit 11 = .ok (.iload_n 1, 1) := dk_27 (dk_at dksX5_isDigit_0 11 rfl rfl)
theorem dX5_isDigit_12 : decode cX5_isDigit 12 = .ok (.invokevirtual 39, 3) := dk_182 0 39 (dk_at dksX5_isDigit_0 12 rfl rfl)
theorem dX5_isDigit_15 : decode cX5_isDigit 15 = .ok (.bipush 57, 2) := dk_16 57 (dk_at dksX5_isDigit_0 15 rfl rfl)
theorem dX5_isDigit_17 : decode cX5_isDigit 17 = .ok (.if_icmp .gt 7, 3) := dk_163 0 7 (dk_at dksX5_isDigit_0 17 rfl rfl)
theorem dX5_isDigit_20 : decode cX5_isDigit 20 = .ok (.iconst 1, 1) := dk_4 (dk_at dksX5_isDigit_0 20 rfl rfl)
theorem dX5_isDigit_21 : decode cX5_isDigit 21 = .ok (.goto 4, 3) := dk_167 0 4 (dk_at dksX5_isDigit_0 21 rfl rfl)
theorem dX5_isDigit_24 : decode cX5_isDigit 24 = .ok (.iconst 0, 1) := dk_3 (dk_at dksX5_isDigit_1 0 rfl rfl)
theorem dX5_isDigit_25 : decode cX5_isDigit 25 = .ok (.ireturn, 1) := dk_172 (dk_at dksX5_isDigit_1 1 rfl rfl)
abbrev cX5_isSign : ByteArray := prog_21_method_5_code
def yX5_isSign : MethodName := ⟨RX5, "isSign", "(I)Z"⟩
def dkwX5_isSign_2 : List UInt8 := [26, 16, 42, 159, 0, 15, 26, 16, 47, 159, 0, 9, 26, 16, 37, 160, 0, 7, 4, 167, 0, 4, 3, 172]
abbrev dktX5_isSign_2 : List UInt8 := dkwX5_isSign_2 ++ []
def dkwX5_isSign_1 : List UInt8 := [26, 16, 62, 159, 0, 39, 26, 16, 61, 159, 0, 33, 26, 16, 43, 159, 0, 27, 26, 16, 45, 159, 0, 21]
abbrev dktX5_isSign_1 : List UInt8 := dkwX5_isSign_1 ++ dktX5_isSign_2
def dkwX5_isSign_0 : List UInt8 := [26, 16, 59, 159, 0, 63, 26, 16, 40, 159, 0, 57, 26, 16, 41, 159, 0, 51, 26, 16, 60, 159, 0, 45]
abbrev dktX5_isSign_0 : List UInt8 := dkwX5_isSign_0 ++ dktX5_isSign_1
theorem dksX5_isSign_0 : cX5_isSign.data.toList.drop 0 = dktX5_isSign_0 := by decide +kernel
theorem dksX5_isSign_1 : cX5_isSign.data.toList.drop 24 = dktX5_isSign_1 := dk_seg dksX5_isSign_0 24 rfl rfl
theorem dksX5_isSign_2 : cX5_isSign.data.toList.drop 48 = dktX5_isSign_2 := dk_seg dksX5_isSign_1 24 rfl rfl
theorem dX5_isSign_0 : decode cX5_isSign 0 = .ok (.iload_n 0, 1) := dk_26 (dk_at dksX5_isSign_0 0 rfl rfl)
theorem dX5_isSign_1 : decode cX5_isSign 1 = .ok (.bipush 59, 2) := dk_16 59 (dk_at dksX5_isSign_0 1 rfl rfl)
theorem dX5_isSign_3 : decode cX5_isSign 3 = .ok (.if_icmp .eq 63, 3) := dk_159 0 63 (dk_at dksX5_isSign_0 3 rfl rfl)
theorem dX5_isSign_6 : decode cX5_isSign 6 = .ok (.iload_n 0, 1) := dk_26 (dk_at dksX5_isSign_0 6 rfl rfl)
theorem dX5_isSign_7 : decode cX5_isSign 7 = .ok (.bipush 40, 2) := dk_16 40 (dk_at dksX5_isSign_0 7 rfl rfl)
theorem dX5_isSign_9 : decode cX5_isSign 9 = .ok (.if_icmp .eq 57, 3) := dk_159 0 57 (dk_at dksX5_isSign_0 9 rfl rfl)
theorem dX5_isSign_12 : decode cX5_isSign 12 = .ok (.iload_n 0, 1) := dk_26 (dk_at dksX5_isSign_0 12 rfl rfl)
theorem dX5_isSign_13 : decode cX5_isSign 13 = .ok (.bipush 41, 2) := dk_16 41 (dk_at dksX5_isSign_0 13 rfl rfl)
theorem dX5_isSign_15 : decode cX5_isSign 15 = .ok (.if_icmp .eq 51, 3) := dk_159 0 51 (dk_at dksX5_isSign_0 15 rfl rfl)
theorem dX5_isSign_18 : decode cX5_isSign 18 = .ok (.iload_n 0, 1) := dk_26 (dk_at dksX5_isSign_0 18 rfl rfl)
theorem dX5_isSign_19 : decode cX5_isSign 19 = .ok (.bipush 60, 2) := dk_16 60 (dk_at dksX5_isSign_0 19 rfl rfl)
theorem dX5_isSign_21 : decode cX5_isSign 21 = .ok (.if_icmp .eq 45, 3) := dk_159 0 45 (dk_at dksX5_isSign_0 21 rfl rfl)
theorem dX5_isSign_24 : decode cX5_isSign 24 = .ok (.iload_n 0, 1) := dk_26 (dk_at dksX5_isSign_1 0 rfl rfl)
theorem dX5_isSign_25 : decode cX5_isSign 25 = .ok (.bipush 62, 2) := dk_16 62 (dk_at dksX5_isSign_1 1 rfl rfl)
theorem dX5_isSign_27 : decode cX5_isSign 27 = .ok (.if_icmp .eq 39, 3) := dk_159 0 39 (dk_at dksX5_isSign_1 3 rfl rfl)
theorem dX5_isSign_30 : decode cX5_isSign 30 = .ok (.iload_n 0, 1) := dk_26 (dk_at dksX5_isSign_1 6 rfl rfl)
theorem dX5_isSign_31 : decode cX5_isSign 31 = .ok (.bipush 61, 2) := dk_16 61 (dk_at dksX5_isSign_1 7 rfl rfl)
theorem dX5_isSign_33 : decode cX5_isSign 33 = .ok (.if_icmp .eq 33, 3) := dk_159 0 33 (dk_at dksX5_isSign_1 9 rfl rfl)
theorem dX5_isSign_36 : decode cX5_isSign 36 = .ok (.iload_n 0, 1) := dk_26 (dk_at dksX5_isSign_1 12 rfl rfl)
theorem dX5_isSign_37 : decode cX5_isSign 37 = .ok (.bipush 43, 2) := dk_16 43 (dk_at dksX5_isSign_1 13 rfl rfl)
theorem dX5_isSign_39 : decode cX5_isSign 39 = .ok (.if_icmp .eq 27, 3) := dk_159 0 27 (dk_at dksX5_isSign_1 15 rfl rfl)
theorem dX5_isSign_42 : decode cX5_isSign 42 = .ok (.iload_n 0, 1) := dk_26 (dk_at dksX5_isSign_1 18 rfl rfl)
theorem dX5_isSign_43 : decode cX5_isSign 43 = .ok (.bipush 45, 2) := dk_16 45 (dk_at dksX5_isSign_1 19 rfl rfl)
theorem dX5_isSign_45 : decode cX5_isSign 45 = .ok (.if_icmp .eq 21, 3) := dk_159 0 21 (dk_at dksX5_isSign_1 21 rfl rfl)
theorem dX5_isSign_48 : decode cX5_isSign 48 = .ok (.iload_n 0, 1) := dk_26 (dk_at dksX5_isSign_2 0 rfl rfl)
theorem dX5_isSign_49 : decode cX5_isSign 49 = .ok (.bipush 42, 2) := dk_16 42 (dk_at dksX5_isSign_2 1 rfl rfl)
theorem dX5_isSign_51 : decode cX5_isSign 51 = .ok (.if_icmp .eq 15, 3) := dk_159 0 15 (dk_at dksX5_isSign_2 3 rfl rfl)
theorem dX5_isSign_54 : decode cX5_isSign 54 = .ok (.iload_n 0, 1) := dk_26 (dk_at dksX5_isSign_2 6 rfl rfl)
theorem dX5_isSign_55 : decode cX5_isSign 55 = .ok (.bipush 47, 2) := dk_16 47 (dk_at dksX5_isSign_2 7 rfl rfl)
theorem dX5_isSign_57 : decode cX5_isSign 57 = .ok (.if_icmp .eq 9, 3) := dk_159 0 9 (dk_at dksX5_isSign_2 9 rfl rfl)
theorem dX5_isSign_60 : decode cX5_isSign 60 = .ok (.iload_n 0, 1) := dk_26 (dk_at dksX5_isSign_2 12 rfl rfl)
theorem dX5_isSign_61 : decode cX5_isSign 61 = .ok (.bipush 37, 2) := dk_16 37 (dk_at dksX5_isSign_2 13 rfl rfl)
theorem dX5_isSign_63 : decode cX5_isSign 63 = .ok (.if_icmp .ne 7, 3) := dk_160 0 7 (dk_at dksX5_isSign_2 15 rfl rfl)
theorem dX5_isSign_66 : decode cX5_isSign 66 = .ok (.iconst 1, 1) := dk_4 (dk_at dksX5_isSign_2 18 rfl rfl)
theorem dX5_isSign_67 : decode cX5_isSign 67 = .ok (.goto 4, 3) := dk_167 0 4 (dk_at dksX5_isSign_2 19 rfl rfl)
theorem dX5_isSign_70 : decode cX5_isSign 70 = .ok (.iconst 0, 1) := dk_3 (dk_at dksX5_isSign_2 22 rfl rfl)
theorem dX5_isSign_71 : decode cX5_isSign 71 = .ok (.ireturn, 1) := dk_172 (dk_at dksX5_isSign_2 23 rfl rfl)
abbrev cX5_line : ByteArray := prog_21_method_14_code
def yX5_line : MethodName := ⟨RX5, "line", "()V"⟩
def dkwX5_line_5 : List UInt8 := [182, 0, 171, 167, 0, 8, 42, 182, 0, 96, 191, 177]
abbrev dktX5_line_5 : List UInt8 := dkwX5_line_5 ++ []
def dkwX5_line_4 : List UInt8 := [182, 0, 166, 167, 0, 31, 42, 18, 116, 182, 0, 86, 153, 0, 17, 42, 180, 0, 168, 154, 0, 10, 42]
abbrev dktX5_line_4 : List UInt8 := dkwX5_line_4 ++ dktX5_line_5
def dkwX5_line_3 : List UInt8 := [182, 0, 161, 167, 0, 54, 42, 18, 114, 182, 0, 86, 153, 0, 17, 42, 180, 0, 163, 154, 0, 10, 42]
abbrev dktX5_line_3 : List UInt8 := dkwX5_line_3 ++ dktX5_line_4
def dkwX5_line_2 : List UInt8 := [18, 108, 182, 0, 86, 153, 0, 24, 42, 180, 0, 24, 180, 0, 152, 182, 0, 156, 7, 162, 0, 10, 42]
abbrev dktX5_line_2 : List UInt8 := dkwX5_line_2 ++ dktX5_line_3
def dkwX5_line_1 : List UInt8 := [18, 106, 182, 0, 86, 153, 0, 17, 42, 180, 0, 147, 154, 0, 10, 42, 182, 0, 150, 167, 0, 84, 42]
abbrev dktX5_line_1 : List UInt8 := dkwX5_line_1 ++ dktX5_line_2
def dkwX5_line_0 : List UInt8 := [42, 18, 104, 182, 0, 86, 153, 0, 17, 42, 180, 0, 141, 154, 0, 10, 42, 182, 0, 145, 167, 0, 107, 42]
abbrev dktX5_line_0 : List UInt8 := dkwX5_line_0 ++ dktX5_line_1
theorem dksX5_line_0 : cX5_line.data.toList.drop 0 = dktX5_line_0 := by decide +kernel
theorem dksX5_line_1 : cX5_line.data.toList.drop 24 = dktX5_line_1 := dk_seg dksX5_line_0 24 rfl rfl
theorem dksX5_line_2 : cX5_line.data.toList.drop 47 = dktX5_line_2 := dk_seg dksX5_line_1 23 rfl rfl
theorem dksX5_line_3 : cX5_line.data.toList.drop 70 = dktX5_line_3 := dk_seg dksX5_line_2 23 rfl rfl
theorem dksX5_line_4 : cX5_line.data.toList.drop 93 = dktX5_line_4 := dk_seg dksX5_line_3 23 rfl rfl
theorem dksX5_line_5 : cX5_line.data.toList.drop 116 = dktX5_line_5 := dk_seg dksX5_line_4 23 rfl rfl
theorem dX5_line_0 : decode cX5_line 0 = .ok (.aload_n 0, 1) := dk_42 (dk_at dksX5_line_0 0 rfl rfl)
theorem dX5_line_1 : decode cX5_line 1 = .ok (.ldc 104, 2) := dk_18 104 (dk_at dksX5_line_0 1 rfl rfl)
theorem dX5_line_3 : decode cX5_line 3 = .ok (.invokevirtual 86, 3) := dk_182 0 86 (dk_at dksX5_line_0 3 rfl rfl)
theorem dX5_line_6 : decode cX5_line 6 = .ok (.ifCond .eq 17, 3) := dk_153 0 17 (dk_at dksX5_line_0 6 rfl rfl)
theorem dX5_line_9 : decode cX5_line 9 = .ok (.aload_n 0, 1) := dk_42 (dk_at dksX5_line_0 9 rfl rfl)
theorem dX5_line_10 : decode cX5_line 10 = .ok (.getfield 141, 3) := dk_180 0 141 (dk_at dksX5_line_0 10 rfl rfl)
theorem dX5_line_13 : decode cX5_line 13 = .ok (.ifCond .ne 10, 3) := dk_154 0 10 (dk_at dksX5_line_0 13 rfl rfl)
theorem dX5_line_16 : decode cX5_line 16 = .ok (.aload_n 0, 1) := dk_42 (dk_at dksX5_line_0 16 rfl rfl)
theorem dX5_line_17 : decode cX5_line 17 = .ok (.invokevirtual 145, 3) := dk_182 0 145 (dk_at dksX5_line_0 17 rfl rfl)
theorem dX5_line_20 : decode cX5_line 20 = .ok (.goto 107, 3) := dk_167 0 107 (dk_at dksX5_line_0 20 rfl rfl)
theorem dX5_line_23 : decode cX5_line 23 = .ok (.aload_n 0, 1) := dk_42 (dk_at dksX5_line_0 23 rfl rfl)
theorem dX5_line_24 : decode cX5_line 24 = .ok (.ldc 106, 2) := dk_18 106 (dk_at dksX5_line_1 0 rfl rfl)
theorem dX5_line_26 : decode cX5_line 26 = .ok (.invokevirtual 86, 3) := dk_182 0 86 (dk_at dksX5_line_1 2 rfl rfl)
theorem dX5_line_29 : decode cX5_line 29 = .ok (.ifCond .eq 17, 3) := dk_153 0 17 (dk_at dksX5_line_1 5 rfl rfl)
theorem dX5_line_32 : decode cX5_line 32 = .ok (.aload_n 0, 1) := dk_42 (dk_at dksX5_line_1 8 rfl rfl)
theorem dX5_line_33 : decode cX5_line 33 = .ok (.getfield 147, 3) := dk_180 0 147 (dk_at dksX5_line_1 9 rfl rfl)
theorem dX5_line_36 : decode cX5_line 36 = .ok (.ifCond .ne 10, 3) := dk_154 0 10 (dk_at dksX5_line_1 12 rfl rfl)
theorem dX5_line_39 : decode cX5_line 39 = .ok (.aload_n 0, 1) := dk_42 (dk_at dksX5_line_1 15 rfl rfl)
theorem dX5_line_40 : decode cX5_line 40 = .ok (.invokevirtual 150, 3) := dk_182 0 150 (dk_at dksX5_line_1 16 rfl rfl)
theorem dX5_line_43 : decode cX5_line 43 = .ok (.goto 84, 3) := dk_167 0 84 (dk_at dksX5_line_1 19 rfl rfl)
theorem dX5_line_46 : decode cX5_line 46 = .ok (.aload_n 0, 1) := dk_42 (dk_at dksX5_line_1 22 rfl rfl)
theorem dX5_line_47 : decode cX5_line 47 = .ok (.ldc 108, 2) := dk_18 108 (dk_at dksX5_line_2 0 rfl rfl)
theorem dX5_line_49 : decode cX5_line 49 = .ok (.invokevirtual 86, 3) := dk_182 0 86 (dk_at dksX5_line_2 2 rfl rfl)
theorem dX5_line_52 : decode cX5_line 52 = .ok (.ifCond .eq 24, 3) := dk_153 0 24 (dk_at dksX5_line_2 5 rfl rfl)
theorem dX5_line_55 : decode cX5_line 55 = .ok (.aload_n 0, 1) := dk_42 (dk_at dksX5_line_2 8 rfl rfl)
theorem dX5_line_56 : decode cX5_line 56 = .ok (.getfield 24, 3) := dk_180 0 24 (dk_at dksX5_line_2 9 rfl rfl)
theorem dX5_line_59 : decode cX5_line 59 = .ok (.getfield 152, 3) := dk_180 0 152 (dk_at dksX5_line_2 12 rfl rfl)
theorem dX5_line_62 : decode cX5_line 62 = .ok (.invokevirtual 156, 3) := dk_182 0 156 (dk_at dksX5_line_2 15 rfl rfl)
theorem dX5_line_65 : decode cX5_line 65 = .ok (.iconst 4, 1) := dk_7 (dk_at dksX5_line_2 18 rfl rfl)
theorem dX5_line_66 : decode cX5_line 66 = .ok (.if_icmp .ge 10, 3) := dk_162 0 10 (dk_at dksX5_line_2 19 rfl rfl)
theorem dX5_line_69 : decode cX5_line 69 = .ok (.aload_n 0, 1) := dk_42 (dk_at dksX5_line_2 22 rfl rfl)
theorem dX5_line_70 : decode cX5_line 70 = .ok (.invokevirtual 161, 3) := dk_182 0 161 (dk_at dksX5_line_3 0 rfl rfl)
theorem dX5_line_73 : decode cX5_line 73 = .ok (.goto 54, 3) := dk_167 0 54 (dk_at dksX5_line_3 3 rfl rfl)
theorem dX5_line_76 : decode cX5_line 76 = .ok (.aload_n 0, 1) := dk_42 (dk_at dksX5_line_3 6 rfl rfl)
theorem dX5_line_77 : decode cX5_line 77 = .ok (.ldc 114, 2) := dk_18 114 (dk_at dksX5_line_3 7 rfl rfl)
theorem dX5_line_79 : decode cX5_line 79 = .ok (.invokevirtual 86, 3) := dk_182 0 86 (dk_at dksX5_line_3 9 rfl rfl)
theorem dX5_line_82 : decode cX5_line 82 = .ok (.ifCond .eq 17, 3) := dk_153 0 17 (dk_at dksX5_line_3 12 rfl rfl)
theorem dX5_line_85 : decode cX5_line 85 = .ok (.aload_n 0, 1) := dk_42 (dk_at dksX5_line_3 15 rfl rfl)
theorem dX5_line_86 : decode cX5_line 86 = .ok (.getfield 163, 3) := dk_180 0 163 (dk_at dksX5_line_3 16 rfl rfl)
theorem dX5_line_89 : decode cX5_line 89 = .ok (.ifCond .ne 10, 3) := dk_154 0 10 (dk_at dksX5_line_3 19 rfl rfl)
theorem dX5_line_92 : decode cX5_line 92 = .ok (.aload_n 0, 1) := dk_42 (dk_at dksX5_line_3 22 rfl rfl)
theorem dX5_line_93 : decode cX5_line 93 = .ok (.invokevirtual 166, 3) := dk_182 0 166 (dk_at dksX5_line_4 0 rfl rfl)
theorem dX5_line_96 : decode cX5_line 96 = .ok (.goto 31, 3) := dk_167 0 31 (dk_at dksX5_line_4 3 rfl rfl)
theorem dX5_line_99 : decode cX5_line 99 = .ok (.aload_n 0, 1) := dk_42 (dk_at dksX5_line_4 6 rfl rfl)
theorem dX5_line_100 : decode cX5_line 100 = .ok (.ldc 116, 2) := dk_18 116 (dk_at dksX5_line_4 7 rfl rfl)
theorem dX5_line_102 : decode cX5_line 102 = .ok (.invokevirtual 86, 3) := dk_182 0 86 (dk_at dksX5_line_4 9 rfl rfl)
theorem dX5_line_105 : decode cX5_line 105 = .ok (.ifCond .eq 17, 3) := dk_153 0 17 (dk_at dksX5_line_4 12 rfl rfl)
theorem dX5_line_108 : decode cX5_line 108 = .ok (.aload_n 0, 1) := dk_42 (dk_at dksX5_line_4 15 rfl rfl)
theorem dX5_line_109 : decode cX5_line 109 = .ok (.getfield 168, 3) := dk_180 0 168 (dk_at dksX5_line_4 16 rfl rfl)
theorem dX5_line_112 : decode cX5_line 112 = .ok (.ifCond .ne 10, 3) := dk_154 0 10 (dk_at dksX5_line_4 19 rfl rfl)
theorem dX5_line_115 : decode cX5_line 115 = .ok (.aload_n 0, 1) := dk_42 (dk_at dksX5_line_4 22 rfl rfl)
theorem dX5_line_116 : decode cX5_line 116 = .ok (.invokevirtual 171, 3) := dk_182 0 171 (dk_at dksX5_line_5 0 rfl rfl)
theorem dX5_line_119 : decode cX5_line 119 = .ok (.goto 8, 3) := dk_167 0 8 (dk_at dksX5_line_5 3 rfl rfl)
theorem dX5_line_122 : decode cX5_line 122 = .ok (.aload_n 0, 1) := dk_42 (dk_at dksX5_line_5 6 rfl rfl)
theorem dX5_line_123 : decode cX5_line 123 = .ok (.invokevirtual 96, 3) := dk_182 0 96 (dk_at dksX5_line_5 7 rfl rfl)
theorem dX5_line_126 : decode cX5_line 126 = .ok (.athrow, 1) := dk_191 (dk_at dksX5_line_5 10 rfl rfl)
theorem dX5_line_127 : decode cX5_line 127 = .ok (.return_, 1) := dk_177 (dk_at dksX5_line_5 11 rfl rfl)
abbrev cX5_is : ByteArray := prog_21_method_8_code
def yX5_is : MethodName := ⟨RX5, "is", "(Ljava/lang/String;)Z"⟩
def dkwX5_is_1 : List UInt8 := [172]
abbrev dktX5_is_1 : List UInt8 := dkwX5_is_1 ++ []
def dkwX5_is_0 : List UInt8 := [42, 180, 0, 46, 4, 160, 0, 18, 42, 180, 0, 17, 43, 182, 0, 80, 153, 0, 7, 4, 167, 0, 4, 3]
abbrev dktX5_is_0 : List UInt8 := dkwX5_is_0 ++ dktX5_is_1
theorem dksX5_is_0 : cX5_is.data.toList.drop 0 = dktX5_is_0 := by decide +kernel
theorem dksX5_is_1 : cX5_is.data.toList.drop 24 = dktX5_is_1 := dk_seg dksX5_is_0 24 rfl rfl
theorem dX5_is_0 : decode cX5_is 0 = .ok (.aload_n 0, 1) := dk_42 (dk_at dksX5_is_0 0 rfl rfl)
theorem dX5_is_1 : decode cX5_is 1 = .ok (.getfield 46, 3) := dk_180 0 46 (dk_at dksX5_is_0 1 rfl rfl)
theorem dX5_is_4 : decode cX5_is 4 = .ok (.iconst 1, 1) := dk_4 (dk_at dksX5_is_0 4 rfl rfl)
theorem dX5_is_5 : decode cX5_is 5 = .ok (.if_icmp .ne 18, 3) := dk_160 0 18 (dk_at dksX5_is_0 5 rfl rfl)
theorem dX5_is_8 : decode cX5_is 8 = .ok (.aload_n 0, 1) := dk_42 (dk_at dksX5_is_0 8 rfl rfl)
theorem dX5_is_9 : decode cX5_is 9 = .ok (.getfield 17, 3) := dk_180 0 17 (dk_at dksX5_is_0 9 rfl rfl)
theorem dX5_is_12 : decode cX5_is 12 = .ok (.aload_n 1, 1) := dk_43 (dk_at dksX5_is_0 12 rfl rfl)
theorem dX5_is_13 : decode cX5_is 13 = .ok (.invokevirtual 80, 3) := dk_182 0 80 (dk_at dksX5_is_0 13 rfl rfl)
theorem dX5_is_16 : decode cX5_is 16 = .ok (.ifCond .eq 7, 3) := dk_153 0 7 (dk_at dksX5_is_0 16 rfl rfl)
theorem dX5_is_19 : decode cX5_is 19 = .ok (.iconst 1, 1) := dk_4 (dk_at dksX5_is_0 19 rfl rfl)
theorem dX5_is_20 : decode cX5_is 20 = .ok (.goto 4, 3) := dk_167 0 4 (dk_at dksX5_is_0 20 rfl rfl)
theorem dX5_is_23 : decode cX5_is 23 = .ok (.iconst 0, 1) := dk_3 (dk_at dksX5_is_0 23 rfl rfl)
theorem dX5_is_24 : decode cX5_is 24 = .ok (.ireturn, 1) := dk_172 (dk_at dksX5_is_1 0 rfl rfl)
abbrev cX5_marks : ByteArray := prog_21_method_15_code
def yX5_marks : MethodName := ⟨RX5, "marks", "()V"⟩
def dkwX5_marks_0 : List UInt8 := [42, 182, 0, 90, 42, 180, 0, 24, 42, 4, 16, 12, 182, 0, 173, 181, 0, 176, 177]
abbrev dktX5_marks_0 : List UInt8 := dkwX5_marks_0 ++ []
theorem dksX5_marks_0 : cX5_marks.data.toList.drop 0 = dktX5_marks_0 := by decide +kernel
theorem dX5_marks_0 : decode cX5_marks 0 = .ok (.aload_n 0, 1) := dk_42 (dk_at dksX5_marks_0 0 rfl rfl)
theorem dX5_marks_1 : decode cX5_marks 1 = .ok (.invokevirtual 90, 3) := dk_182 0 90 (dk_at dksX5_marks_0 1 rfl rfl)
theorem dX5_marks_4 : decode cX5_marks 4 = .ok (.aload_n 0, 1) := dk_42 (dk_at dksX5_marks_0 4 rfl rfl)
theorem dX5_marks_5 : decode cX5_marks 5 = .ok (.getfield 24, 3) := dk_180 0 24 (dk_at dksX5_marks_0 5 rfl rfl)
theorem dX5_marks_8 : decode cX5_marks 8 = .ok (.aload_n 0, 1) := dk_42 (dk_at dksX5_marks_0 8 rfl rfl)
theorem dX5_marks_9 : decode cX5_marks 9 = .ok (.iconst 1, 1) := dk_4 (dk_at dksX5_marks_0 9 rfl rfl)
theorem dX5_marks_10 : decode cX5_marks 10 = .ok (.bipush 12, 2) := dk_16 12 (dk_at dksX5_marks_0 10 rfl rfl)
theorem dX5_marks_12 : decode cX5_marks 12 = .ok (.invokevirtual 173, 3) := dk_182 0 173 (dk_at dksX5_marks_0 12 rfl rfl)
theorem dX5_marks_15 : decode cX5_marks 15 = .ok (.putfield 176, 3) := dk_181 0 176 (dk_at dksX5_marks_0 15 rfl rfl)
theorem dX5_marks_18 : decode cX5_marks 18 = .ok (.return_, 1) := dk_177 (dk_at dksX5_marks_0 18 rfl rfl)
abbrev cX5_number : ByteArray := prog_21_method_11_code
def yX5_number : MethodName := ⟨RX5, "number", "(II)I"⟩
def dkwX5_number_2 : List UInt8 := [62, 42, 182, 0, 90, 29, 172]
abbrev dktX5_number_2 : List UInt8 := dkwX5_number_2 ++ []
def dkwX5_number_1 : List UInt8 := [180, 0, 69, 28, 164, 0, 16, 187, 0, 75, 89, 7, 42, 180, 0, 43, 183, 0, 77, 191, 42, 180, 0, 69]
abbrev dktX5_number_1 : List UInt8 := dkwX5_number_1 ++ dktX5_number_2
def dkwX5_number_0 : List UInt8 := [42, 180, 0, 46, 5, 159, 0, 8, 42, 182, 0, 96, 191, 42, 180, 0, 69, 27, 161, 0, 11, 42]
abbrev dktX5_number_0 : List UInt8 := dkwX5_number_0 ++ dktX5_number_1
theorem dksX5_number_0 : cX5_number.data.toList.drop 0 = dktX5_number_0 := by decide +kernel
theorem dksX5_number_1 : cX5_number.data.toList.drop 22 = dktX5_number_1 := dk_seg dksX5_number_0 22 rfl rfl
theorem dksX5_number_2 : cX5_number.data.toList.drop 46 = dktX5_number_2 := dk_seg dksX5_number_1 24 rfl rfl
theorem dX5_number_0 : decode cX5_number 0 = .ok (.aload_n 0, 1) := dk_42 (dk_at dksX5_number_0 0 rfl rfl)
theorem dX5_number_1 : decode cX5_number 1 = .ok (.getfield 46, 3) := dk_180 0 46 (dk_at dksX5_number_0 1 rfl rfl)
theorem dX5_number_4 : decode cX5_number 4 = .ok (.iconst 2, 1) := dk_5 (dk_at dksX5_number_0 4 rfl rfl)
theorem dX5_number_5 : decode cX5_number 5 = .ok (.if_icmp .eq 8, 3) := dk_159 0 8 (dk_at dksX5_number_0 5 rfl rfl)
theorem dX5_number_8 : decode cX5_number 8 = .ok (.aload_n 0, 1) := dk_42 (dk_at dksX5_number_0 8 rfl rfl)
theorem dX5_number_9 : decode cX5_number 9 = .ok (.invokevirtual 96, 3) := dk_182 0 96 (dk_at dksX5_number_0 9 rfl rfl)
theorem dX5_number_12 : decode cX5_number 12 = .ok (.athrow, 1) := dk_191 (dk_at dksX5_number_0 12 rfl rfl)
theorem dX5_number_13 : decode cX5_number 13 = .ok (.aload_n 0, 1) := dk_42 (dk_at dksX5_number_0 13 rfl rfl)
theorem dX5_number_14 : decode cX5_number 14 = .ok (.getfield 69, 3) := dk_180 0 69 (dk_at dksX5_number_0 14 rfl rfl)
theorem dX5_number_17 : decode cX5_number 17 = .ok (.iload_n 1, 1) := dk_27 (dk_at dksX5_number_0 17 rfl rfl)
theorem dX5_number_18 : decode cX5_number 18 = .ok (.if_icmp .lt 11, 3) := dk_161 0 11 (dk_at dksX5_number_0 18 rfl rfl)
theorem dX5_number_21 : decode cX5_number 21 = .ok (.aload_n 0, 1) := dk_42 (dk_at dksX5_number_0 21 rfl rfl)
theorem dX5_number_22 : decode cX5_number 22 = .ok (.getfield 69, 3) := dk_180 0 69 (dk_at dksX5_number_1 0 rfl rfl)
theorem dX5_number_25 : decode cX5_number 25 = .ok (.iload_n 2, 1) := dk_28 (dk_at dksX5_number_1 3 rfl rfl)
theorem dX5_number_26 : decode cX5_number 26 = .ok (.if_icmp .le 16, 3) := dk_164 0 16 (dk_at dksX5_number_1 4 rfl rfl)
theorem dX5_number_29 : decode cX5_number 29 = .ok (.new 75, 3) := dk_187 0 75 (dk_at dksX5_number_1 7 rfl rfl)
theorem dX5_number_32 : decode cX5_number 32 = .ok (.dup, 1) := dk_89 (dk_at dksX5_number_1 10 rfl rfl)
theorem dX5_number_33 : decode cX5_number 33 = .ok (.iconst 4, 1) := dk_7 (dk_at dksX5_number_1 11 rfl rfl)
theorem dX5_number_34 : decode cX5_number 34 = .ok (.aload_n 0, 1) := dk_42 (dk_at dksX5_number_1 12 rfl rfl)
theorem dX5_number_35 : decode cX5_number 35 = .ok (.getfield 43, 3) := dk_180 0 43 (dk_at dksX5_number_1 13 rfl rfl)
theorem dX5_number_38 : decode cX5_number 38 = .ok (.invokespecial 77, 3) := dk_183 0 77 (dk_at dksX5_number_1 16 rfl rfl)
theorem dX5_number_41 : decode cX5_number 41 = .ok (.athrow, 1) := dk_191 (dk_at dksX5_number_1 19 rfl rfl)
theorem dX5_number_42 : decode cX5_number 42 = .ok (.aload_n 0, 1) := dk_42 (dk_at dksX5_number_1 20 rfl rfl)
theorem dX5_number_43 : decode cX5_number 43 = .ok (.getfield 69, 3) := dk_180 0 69 (dk_at dksX5_number_1 21 rfl rfl)
theorem dX5_number_46 : decode cX5_number 46 = .ok (.istore_n 3, 1) := dk_62 (dk_at dksX5_number_2 0 rfl rfl)
theorem dX5_number_47 : decode cX5_number 47 = .ok (.aload_n 0, 1) := dk_42 (dk_at dksX5_number_2 1 rfl rfl)
theorem dX5_number_48 : decode cX5_number 48 = .ok (.invokevirtual 90, 3) := dk_182 0 90 (dk_at dksX5_number_2 2 rfl rfl)
theorem dX5_number_51 : decode cX5_number 51 = .ok (.iload_n 3, 1) := dk_29 (dk_at dksX5_number_2 5 rfl rfl)
theorem dX5_number_52 : decode cX5_number 52 = .ok (.ireturn, 1) := dk_172 (dk_at dksX5_number_2 6 rfl rfl)
abbrev cX5_wrong : ByteArray := prog_21_method_7_code
def yX5_wrong : MethodName := ⟨RX5, "wrong", "()LSealCasts$Wrong;"⟩
def dkwX5_wrong_1 : List UInt8 := [176]
abbrev dktX5_wrong_1 : List UInt8 := dkwX5_wrong_1 ++ []
def dkwX5_wrong_0 : List UInt8 := [187, 0, 75, 89, 42, 180, 0, 46, 6, 160, 0, 7, 4, 167, 0, 4, 5, 42, 180, 0, 43, 183, 0, 77]
abbrev dktX5_wrong_0 : List UInt8 := dkwX5_wrong_0 ++ dktX5_wrong_1
theorem dksX5_wrong_0 : cX5_wrong.data.toList.drop 0 = dktX5_wrong_0 := by decide +kernel
theorem dksX5_wrong_1 : cX5_wrong.data.toList.drop 24 = dktX5_wrong_1 := dk_seg dksX5_wrong_0 24 rfl rfl
theorem dX5_wrong_0 : decode cX5_wrong 0 = .ok (.new 75, 3) := dk_187 0 75 (dk_at dksX5_wrong_0 0 rfl rfl)
theorem dX5_wrong_3 : decode cX5_wrong 3 = .ok (.dup, 1) := dk_89 (dk_at dksX5_wrong_0 3 rfl rfl)
theorem dX5_wrong_4 : decode cX5_wrong 4 = .ok (.aload_n 0, 1) := dk_42 (dk_at dksX5_wrong_0 4 rfl rfl)
theorem dX5_wrong_5 : decode cX5_wrong 5 = .ok (.getfield 46, 3) := dk_180 0 46 (dk_at dksX5_wrong_0 5 rfl rfl)
theorem dX5_wrong_8 : decode cX5_wrong 8 = .ok (.iconst 3, 1) := dk_6 (dk_at dksX5_wrong_0 8 rfl rfl)
theorem dX5_wrong_9 : decode cX5_wrong 9 = .ok (.if_icmp .ne 7, 3) := dk_160 0 7 (dk_at dksX5_wrong_0 9 rfl rfl)
theorem dX5_wrong_12 : decode cX5_wrong 12 = .ok (.iconst 1, 1) := dk_4 (dk_at dksX5_wrong_0 12 rfl rfl)
theorem dX5_wrong_13 : decode cX5_wrong 13 = .ok (.goto 4, 3) := dk_167 0 4 (dk_at dksX5_wrong_0 13 rfl rfl)
theorem dX5_wrong_16 : decode cX5_wrong 16 = .ok (.iconst 2, 1) := dk_5 (dk_at dksX5_wrong_0 16 rfl rfl)
theorem dX5_wrong_17 : decode cX5_wrong 17 = .ok (.aload_n 0, 1) := dk_42 (dk_at dksX5_wrong_0 17 rfl rfl)
theorem dX5_wrong_18 : decode cX5_wrong 18 = .ok (.getfield 43, 3) := dk_180 0 43 (dk_at dksX5_wrong_0 18 rfl rfl)
theorem dX5_wrong_21 : decode cX5_wrong 21 = .ok (.invokespecial 77, 3) := dk_183 0 77 (dk_at dksX5_wrong_0 21 rfl rfl)
theorem dX5_wrong_24 : decode cX5_wrong 24 = .ok (.areturn, 1) := dk_176 (dk_at dksX5_wrong_1 0 rfl rfl)
abbrev cX5_first : ByteArray := prog_21_method_16_code
def yX5_first : MethodName := ⟨RX5, "first", "()V"⟩
def dkwX5_first_4 : List UInt8 := [180, 0, 24, 180, 0, 176, 4, 100, 182, 0, 173, 120, 128, 181, 0, 179, 167, 255, 157, 177]
abbrev dktX5_first_4 : List UInt8 := dkwX5_first_4 ++ []
def dkwX5_first_3 : List UInt8 := [89, 6, 42, 180, 0, 43, 183, 0, 77, 191, 42, 180, 0, 24, 89, 180, 0, 179, 4, 42, 3, 42]
abbrev dktX5_first_3 : List UInt8 := dkwX5_first_3 ++ dktX5_first_4
def dkwX5_first_2 : List UInt8 := [162, 0, 34, 42, 180, 0, 24, 180, 0, 179, 42, 180, 0, 69, 122, 4, 126, 4, 160, 0, 16, 187, 0, 75]
abbrev dktX5_first_2 : List UInt8 := dkwX5_first_2 ++ dktX5_first_3
def dkwX5_first_1 : List UInt8 := [160, 0, 87, 42, 180, 0, 46, 5, 160, 0, 48, 42, 180, 0, 69, 42, 180, 0, 24, 180, 0, 176]
abbrev dktX5_first_1 : List UInt8 := dkwX5_first_1 ++ dktX5_first_2
def dkwX5_first_0 : List UInt8 := [42, 182, 0, 90, 42, 4, 181, 0, 147, 42, 180, 0, 24, 180, 0, 179, 153, 0, 11, 42, 180, 0, 46, 5]
abbrev dktX5_first_0 : List UInt8 := dkwX5_first_0 ++ dktX5_first_1
theorem dksX5_first_0 : cX5_first.data.toList.drop 0 = dktX5_first_0 := by decide +kernel
theorem dksX5_first_1 : cX5_first.data.toList.drop 24 = dktX5_first_1 := dk_seg dksX5_first_0 24 rfl rfl
theorem dksX5_first_2 : cX5_first.data.toList.drop 46 = dktX5_first_2 := dk_seg dksX5_first_1 22 rfl rfl
theorem dksX5_first_3 : cX5_first.data.toList.drop 70 = dktX5_first_3 := dk_seg dksX5_first_2 24 rfl rfl
theorem dksX5_first_4 : cX5_first.data.toList.drop 92 = dktX5_first_4 := dk_seg dksX5_first_3 22 rfl rfl
theorem dX5_first_0 : decode cX5_first 0 = .ok (.aload_n 0, 1) := dk_42 (dk_at dksX5_first_0 0 rfl rfl)
theorem dX5_first_1 : decode cX5_first 1 = .ok (.invokevirtual 90, 3) := dk_182 0 90 (dk_at dksX5_first_0 1 rfl rfl)
theorem dX5_first_4 : decode cX5_first 4 = .ok (.aload_n 0, 1) := dk_42 (dk_at dksX5_first_0 4 rfl rfl)
theorem dX5_first_5 : decode cX5_first 5 = .ok (.iconst 1, 1) := dk_4 (dk_at dksX5_first_0 5 rfl rfl)
theorem dX5_first_6 : decode cX5_first 6 = .ok (.putfield 147, 3) := dk_181 0 147 (dk_at dksX5_first_0 6 rfl rfl)
theorem dX5_first_9 : decode cX5_first 9 = .ok (.aload_n 0, 1) := dk_42 (dk_at dksX5_first_0 9 rfl rfl)
theorem dX5_first_10 : decode cX5_first 10 = .ok (.getfield 24, 3) := dk_180 0 24 (dk_at dksX5_first_0 10 rfl rfl)
theorem dX5_first_13 : decode cX5_first 13 = .ok (.getfield 179, 3) := dk_180 0 179 (dk_at dksX5_first_0 13 rfl rfl)
theorem dX5_first_16 : decode cX5_first 16 = .ok (.ifCond .eq 11, 3) := dk_153 0 11 (dk_at dksX5_first_0 16 rfl rfl)
theorem dX5_first_19 : decode cX5_first 19 = .ok (.aload_n 0, 1) := dk_42 (dk_at dksX5_first_0 19 rfl rfl)
theorem dX5_first_20 : decode cX5_first 20 = .ok (.getfield 46, 3) := dk_180 0 46 (dk_at dksX5_first_0 20 rfl rfl)
theorem dX5_first_23 : decode cX5_first 23 = .ok (.iconst 2, 1) := dk_5 (dk_at dksX5_first_0 23 rfl rfl)
theorem dX5_first_24 : decode cX5_first 24 = .ok (.if_icmp .ne 87, 3) := dk_160 0 87 (dk_at dksX5_first_1 0 rfl rfl)
theorem dX5_first_27 : decode cX5_first 27 = .ok (.aload_n 0, 1) := dk_42 (dk_at dksX5_first_1 3 rfl rfl)
theorem dX5_first_28 : decode cX5_first 28 = .ok (.getfield 46, 3) := dk_180 0 46 (dk_at dksX5_first_1 4 rfl rfl)
theorem dX5_first_31 : decode cX5_first 31 = .ok (.iconst 2, 1) := dk_5 (dk_at dksX5_first_1 7 rfl rfl)
theorem dX5_first_32 : decode cX5_first 32 = .ok (.if_icmp .ne 48, 3) := dk_160 0 48 (dk_at dksX5_first_1 8 rfl rfl)
theorem dX5_first_35 : decode cX5_first 35 = .ok (.aload_n 0, 1) := dk_42 (dk_at dksX5_first_1 11 rfl rfl)
theorem dX5_first_36 : decode cX5_first 36 = .ok (.getfield 69, 3) := dk_180 0 69 (dk_at dksX5_first_1 12 rfl rfl)
theorem dX5_first_39 : decode cX5_first 39 = .ok (.aload_n 0, 1) := dk_42 (dk_at dksX5_first_1 15 rfl rfl)
theorem dX5_first_40 : decode cX5_first 40 = .ok (.getfield 24, 3) := dk_180 0 24 (dk_at dksX5_first_1 16 rfl rfl)
theorem dX5_first_43 : decode cX5_first 43 = .ok (.getfield 176, 3) := dk_180 0 176 (dk_at dksX5_first_1 19 rfl rfl)
theorem dX5_first_46 : decode cX5_first 46 = .ok (.if_icmp .ge 34, 3) := dk_162 0 34 (dk_at dksX5_first_2 0 rfl rfl)
theorem dX5_first_49 : decode cX5_first 49 = .ok (.aload_n 0, 1) := dk_42 (dk_at dksX5_first_2 3 rfl rfl)
theorem dX5_first_50 : decode cX5_first 50 = .ok (.getfield 24, 3) := dk_180 0 24 (dk_at dksX5_first_2 4 rfl rfl)
theorem dX5_first_53 : decode cX5_first 53 = .ok (.getfield 179, 3) := dk_180 0 179 (dk_at dksX5_first_2 7 rfl rfl)
theorem dX5_first_56 : decode cX5_first 56 = .ok (.aload_n 0, 1) := dk_42 (dk_at dksX5_first_2 10 rfl rfl)
theorem dX5_first_57 : decode cX5_first 57 = .ok (.getfield 69, 3) := dk_180 0 69 (dk_at dksX5_first_2 11 rfl rfl)
theorem dX5_first_60 : decode cX5_first 60 = .ok (.ishr, 1) := dk_122 (dk_at dksX5_first_2 14 rfl rfl)
theorem dX5_first_61 : decode cX5_first 61 = .ok (.iconst 1, 1) := dk_4 (dk_at dksX5_first_2 15 rfl rfl)
theorem dX5_first_62 : decode cX5_first 62 = .ok (.iand, 1) := dk_126 (dk_at dksX5_first_2 16 rfl rfl)
theorem dX5_first_63 : decode cX5_first 63 = .ok (.iconst 1, 1) := dk_4 (dk_at dksX5_first_2 17 rfl rfl)
theorem dX5_first_64 : decode cX5_first 64 = .ok (.if_icmp .ne 16, 3) := dk_160 0 16 (dk_at dksX5_first_2 18 rfl rfl)
theorem dX5_first_67 : decode cX5_first 67 = .ok (.new 75, 3) := dk_187 0 75 (dk_at dksX5_first_2 21 rfl rfl)
theorem dX5_first_70 : decode cX5_first 70 = .ok (.dup, 1) := dk_89 (dk_at dksX5_first_3 0 rfl rfl)
theorem dX5_first_71 : decode cX5_first 71 = .ok (.iconst 3, 1) := dk_6 (dk_at dksX5_first_3 1 rfl rfl)
theorem dX5_first_72 : decode cX5_first 72 = .ok (.aload_n 0, 1) := dk_42 (dk_at dksX5_first_3 2 rfl rfl)
theorem dX5_first_73 : decode cX5_first 73 = .ok (.getfield 43, 3) := dk_180 0 43 (dk_at dksX5_first_3 3 rfl rfl)
theorem dX5_first_76 : decode cX5_first 76 = .ok (.invokespecial 77, 3) := dk_183 0 77 (dk_at dksX5_first_3 6 rfl rfl)
theorem dX5_first_79 : decode cX5_first 79 = .ok (.athrow, 1) := dk_191 (dk_at dksX5_first_3 9 rfl rfl)
theorem dX5_first_80 : decode cX5_first 80 = .ok (.aload_n 0, 1) := dk_42 (dk_at dksX5_first_3 10 rfl rfl)
theorem dX5_first_81 : decode cX5_first 81 = .ok (.getfield 24, 3) := dk_180 0 24 (dk_at dksX5_first_3 11 rfl rfl)
theorem dX5_first_84 : decode cX5_first 84 = .ok (.dup, 1) := dk_89 (dk_at dksX5_first_3 14 rfl rfl)
theorem dX5_first_85 : decode cX5_first 85 = .ok (.getfield 179, 3) := dk_180 0 179 (dk_at dksX5_first_3 15 rfl rfl)
theorem dX5_first_88 : decode cX5_first 88 = .ok (.iconst 1, 1) := dk_4 (dk_at dksX5_first_3 18 rfl rfl)
theorem dX5_first_89 : decode cX5_first 89 = .ok (.aload_n 0, 1) := dk_42 (dk_at dksX5_first_3 19 rfl rfl)
theorem dX5_first_90 : decode cX5_first 90 = .ok (.iconst 0, 1) := dk_3 (dk_at dksX5_first_3 20 rfl rfl)
theorem dX5_first_91 : decode cX5_first 91 = .ok (.aload_n 0, 1) := dk_42 (dk_at dksX5_first_3 21 rfl rfl)
theorem dX5_first_92 : decode cX5_first 92 = .ok (.getfield 24, 3) := dk_180 0 24 (dk_at dksX5_first_4 0 rfl rfl)
theorem dX5_first_95 : decode cX5_first 95 = .ok (.getfield 176, 3) := dk_180 0 176 (dk_at dksX5_first_4 3 rfl rfl)
theorem dX5_first_98 : decode cX5_first 98 = .ok (.iconst 1, 1) := dk_4 (dk_at dksX5_first_4 6 rfl rfl)
theorem dX5_first_99 : decode cX5_first 99 = .ok (.isub, 1) := dk_100 (dk_at dksX5_first_4 7 rfl rfl)
theorem dX5_first_100 : decode cX5_first 100 = .ok (.invokevirtual 173, 3) := dk_182 0 173 (dk_at dksX5_first_4 8 rfl rfl)
theorem dX5_first_103 : decode cX5_first 103 = .ok (.ishl, 1) := dk_120 (dk_at dksX5_first_4 11 rfl rfl)
theorem dX5_first_104 : decode cX5_first 104 = .ok (.ior, 1) := dk_128 (dk_at dksX5_first_4 12 rfl rfl)
theorem dX5_first_105 : decode cX5_first 105 = .ok (.putfield 179, 3) := dk_181 0 179 (dk_at dksX5_first_4 13 rfl rfl)
theorem dX5_first_108 : decode cX5_first 108 = .ok (.goto (-99), 3) := dk_167 255 157 (dk_at dksX5_first_4 16 rfl rfl)
theorem dX5_first_111 : decode cX5_first 111 = .ok (.return_, 1) := dk_177 (dk_at dksX5_first_4 19 rfl rfl)
abbrev cX5_hand : ByteArray := prog_21_method_17_code
def yX5_hand : MethodName := ⟨RX5, "hand", "()V"⟩
def dkwX5_hand_3 : List UInt8 := [180, 0, 24, 180, 0, 152, 187, 0, 196, 89, 43, 44, 42, 182, 0, 192, 183, 0, 198, 182, 0, 201, 87, 177]
abbrev dktX5_hand_3 : List UInt8 := dkwX5_hand_3 ++ []
def dkwX5_hand_2 : List UInt8 := [42, 182, 0, 90, 42, 18, 110, 182, 0, 188, 42, 182, 0, 192, 77, 42, 18, 112, 182, 0, 188, 42]
abbrev dktX5_hand_2 : List UInt8 := dkwX5_hand_2 ++ dktX5_hand_3
def dkwX5_hand_1 : List UInt8 := [182, 0, 185, 155, 0, 16, 187, 0, 75, 89, 6, 42, 180, 0, 43, 183, 0, 77, 191, 42, 180, 0, 17, 76]
abbrev dktX5_hand_1 : List UInt8 := dkwX5_hand_1 ++ dktX5_hand_2
def dkwX5_hand_0 : List UInt8 := [42, 182, 0, 90, 42, 182, 0, 181, 154, 0, 8, 42, 182, 0, 96, 191, 42, 180, 0, 24, 42, 180, 0, 17]
abbrev dktX5_hand_0 : List UInt8 := dkwX5_hand_0 ++ dktX5_hand_1
theorem dksX5_hand_0 : cX5_hand.data.toList.drop 0 = dktX5_hand_0 := by decide +kernel
theorem dksX5_hand_1 : cX5_hand.data.toList.drop 24 = dktX5_hand_1 := dk_seg dksX5_hand_0 24 rfl rfl
theorem dksX5_hand_2 : cX5_hand.data.toList.drop 48 = dktX5_hand_2 := dk_seg dksX5_hand_1 24 rfl rfl
theorem dksX5_hand_3 : cX5_hand.data.toList.drop 70 = dktX5_hand_3 := dk_seg dksX5_hand_2 22 rfl rfl
theorem dX5_hand_0 : decode cX5_hand 0 = .ok (.aload_n 0, 1) := dk_42 (dk_at dksX5_hand_0 0 rfl rfl)
theorem dX5_hand_1 : decode cX5_hand 1 = .ok (.invokevirtual 90, 3) := dk_182 0 90 (dk_at dksX5_hand_0 1 rfl rfl)
theorem dX5_hand_4 : decode cX5_hand 4 = .ok (.aload_n 0, 1) := dk_42 (dk_at dksX5_hand_0 4 rfl rfl)
theorem dX5_hand_5 : decode cX5_hand 5 = .ok (.invokevirtual 181, 3) := dk_182 0 181 (dk_at dksX5_hand_0 5 rfl rfl)
theorem dX5_hand_8 : decode cX5_hand 8 = .ok (.ifCond .ne 8, 3) := dk_154 0 8 (dk_at dksX5_hand_0 8 rfl rfl)
theorem dX5_hand_11 : decode cX5_hand 11 = .ok (.aload_n 0, 1) := dk_42 (dk_at dksX5_hand_0 11 rfl rfl)
theorem dX5_hand_12 : decode cX5_hand 12 = .ok (.invokevirtual 96, 3) := dk_182 0 96 (dk_at dksX5_hand_0 12 rfl rfl)
theorem dX5_hand_15 : decode cX5_hand 15 = .ok (.athrow, 1) := dk_191 (dk_at dksX5_hand_0 15 rfl rfl)
theorem dX5_hand_16 : decode cX5_hand 16 = .ok (.aload_n 0, 1) := dk_42 (dk_at dksX5_hand_0 16 rfl rfl)
theorem dX5_hand_17 : decode cX5_hand 17 = .ok (.getfield 24, 3) := dk_180 0 24 (dk_at dksX5_hand_0 17 rfl rfl)
theorem dX5_hand_20 : decode cX5_hand 20 = .ok (.aload_n 0, 1) := dk_42 (dk_at dksX5_hand_0 20 rfl rfl)
theorem dX5_hand_21 : decode cX5_hand 21 = .ok (.getfield 17, 3) := dk_180 0 17 (dk_at dksX5_hand_0 21 rfl rfl)
theorem dX5_hand_24 : decode cX5_hand 24 = .ok (.invokevirtual 185, 3) := dk_182 0 185 (dk_at dksX5_hand_1 0 rfl rfl)
theorem dX5_hand_27 : decode cX5_hand 27 = .ok (.ifCond .lt 16, 3) := dk_155 0 16 (dk_at dksX5_hand_1 3 rfl rfl)
theorem dX5_hand_30 : decode cX5_hand 30 = .ok (.new 75, 3) := dk_187 0 75 (dk_at dksX5_hand_1 6 rfl rfl)
theorem dX5_hand_33 : decode cX5_hand 33 = .ok (.dup, 1) := dk_89 (dk_at dksX5_hand_1 9 rfl rfl)
theorem dX5_hand_34 : decode cX5_hand 34 = .ok (.iconst 3, 1) := dk_6 (dk_at dksX5_hand_1 10 rfl rfl)
theorem dX5_hand_35 : decode cX5_hand 35 = .ok (.aload_n 0, 1) := dk_42 (dk_at dksX5_hand_1 11 rfl rfl)
theorem dX5_hand_36 : decode cX5_hand 36 = .ok (.getfield 43, 3) := dk_180 0 43 (dk_at dksX5_hand_1 12 rfl rfl)
theorem dX5_hand_39 : decode cX5_hand 39 = .ok (.invokespecial 77, 3) := dk_183 0 77 (dk_at dksX5_hand_1 15 rfl rfl)
theorem dX5_hand_42 : decode cX5_hand 42 = .ok (.athrow, 1) := dk_191 (dk_at dksX5_hand_1 18 rfl rfl)
theorem dX5_hand_43 : decode cX5_hand 43 = .ok (.aload_n 0, 1) := dk_42 (dk_at dksX5_hand_1 19 rfl rfl)
theorem dX5_hand_44 : decode cX5_hand 44 = .ok (.getfield 17, 3) := dk_180 0 17 (dk_at dksX5_hand_1 20 rfl rfl)
theorem dX5_hand_47 : decode cX5_hand 47 = .ok (.astore_n 1, 1) := dk_76 (dk_at dksX5_hand_1 23 rfl rfl)
theorem dX5_hand_48 : decode cX5_hand 48 = .ok (.aload_n 0, 1) := dk_42 (dk_at dksX5_hand_2 0 rfl rfl)
theorem dX5_hand_49 : decode cX5_hand 49 = .ok (.invokevirtual 90, 3) := dk_182 0 90 (dk_at dksX5_hand_2 1 rfl rfl)
theorem dX5_hand_52 : decode cX5_hand 52 = .ok (.aload_n 0, 1) := dk_42 (dk_at dksX5_hand_2 4 rfl rfl)
theorem dX5_hand_53 : decode cX5_hand 53 = .ok (.ldc 110, 2) := dk_18 110 (dk_at dksX5_hand_2 5 rfl rfl)
theorem dX5_hand_55 : decode cX5_hand 55 = .ok (.invokevirtual 188, 3) := dk_182 0 188 (dk_at dksX5_hand_2 7 rfl rfl)
theorem dX5_hand_58 : decode cX5_hand 58 = .ok (.aload_n 0, 1) := dk_42 (dk_at dksX5_hand_2 10 rfl rfl)
theorem dX5_hand_59 : decode cX5_hand 59 = .ok (.invokevirtual 192, 3) := dk_182 0 192 (dk_at dksX5_hand_2 11 rfl rfl)
theorem dX5_hand_62 : decode cX5_hand 62 = .ok (.astore_n 2, 1) := dk_77 (dk_at dksX5_hand_2 14 rfl rfl)
theorem dX5_hand_63 : decode cX5_hand 63 = .ok (.aload_n 0, 1) := dk_42 (dk_at dksX5_hand_2 15 rfl rfl)
theorem dX5_hand_64 : decode cX5_hand 64 = .ok (.ldc 112, 2) := dk_18 112 (dk_at dksX5_hand_2 16 rfl rfl)
theorem dX5_hand_66 : decode cX5_hand 66 = .ok (.invokevirtual 188, 3) := dk_182 0 188 (dk_at dksX5_hand_2 18 rfl rfl)
theorem dX5_hand_69 : decode cX5_hand 69 = .ok (.aload_n 0, 1) := dk_42 (dk_at dksX5_hand_2 21 rfl rfl)
theorem dX5_hand_70 : decode cX5_hand 70 = .ok (.getfield 24, 3) := dk_180 0 24 (dk_at dksX5_hand_3 0 rfl rfl)
theorem dX5_hand_73 : decode cX5_hand 73 = .ok (.getfield 152, 3) := dk_180 0 152 (dk_at dksX5_hand_3 3 rfl rfl)
theorem dX5_hand_76 : decode cX5_hand 76 = .ok (.new 196, 3) := dk_187 0 196 (dk_at dksX5_hand_3 6 rfl rfl)
theorem dX5_hand_79 : decode cX5_hand 79 = .ok (.dup, 1) := dk_89 (dk_at dksX5_hand_3 9 rfl rfl)
theorem dX5_hand_80 : decode cX5_hand 80 = .ok (.aload_n 1, 1) := dk_43 (dk_at dksX5_hand_3 10 rfl rfl)
theorem dX5_hand_81 : decode cX5_hand 81 = .ok (.aload_n 2, 1) := dk_44 (dk_at dksX5_hand_3 11 rfl rfl)
theorem dX5_hand_82 : decode cX5_hand 82 = .ok (.aload_n 0, 1) := dk_42 (dk_at dksX5_hand_3 12 rfl rfl)
theorem dX5_hand_83 : decode cX5_hand 83 = .ok (.invokevirtual 192, 3) := dk_182 0 192 (dk_at dksX5_hand_3 13 rfl rfl)
theorem dX5_hand_86 : decode cX5_hand 86 = .ok (.invokespecial 198, 3) := dk_183 0 198 (dk_at dksX5_hand_3 16 rfl rfl)
theorem dX5_hand_89 : decode cX5_hand 89 = .ok (.invokevirtual 201, 3) := dk_182 0 201 (dk_at dksX5_hand_3 19 rfl rfl)
theorem dX5_hand_92 : decode cX5_hand 92 = .ok (.pop, 1) := dk_87 (dk_at dksX5_hand_3 22 rfl rfl)
theorem dX5_hand_93 : decode cX5_hand 93 = .ok (.return_, 1) := dk_177 (dk_at dksX5_hand_3 23 rfl rfl)
abbrev cX5_isName : ByteArray := prog_21_method_12_code
def yX5_isName : MethodName := ⟨RX5, "isName", "()Z"⟩
def dkwX5_isName_14 : List UInt8 := [3, 172, 4, 172]
abbrev dktX5_isName_14 : List UInt8 := dkwX5_isName_14 ++ []
def dkwX5_isName_13 : List UInt8 := [170, 0, 0, 0, 83, 0, 0, 0, 0, 0, 0, 0, 16, 0, 0, 0, 81, 0, 0, 0, 81, 0, 0, 0, 81, 0, 0, 0, 81, 0, 0, 0, 81, 0, 0, 0, 81, 0, 0, 0, 81, 0, 0, 0, 81, 0, 0, 0, 81, 0, 0, 0, 81, 0, 0, 0, 81, 0, 0, 0, 81, 0, 0, 0, 81, 0, 0, 0, 81, 0, 0, 0, 81, 0, 0, 0, 81, 0, 0, 0, 81]
abbrev dktX5_isName_13 : List UInt8 := dkwX5_isName_13 ++ dktX5_isName_14
def dkwX5_isName_12 : List UInt8 := [182, 0, 80, 153, 0, 6, 16, 16, 61, 28]
abbrev dktX5_isName_12 : List UInt8 := dkwX5_isName_12 ++ dktX5_isName_13
def dkwX5_isName_11 : List UInt8 := [16, 14, 61, 167, 0, 30, 43, 18, 134, 182, 0, 80, 153, 0, 21, 16, 15, 61, 167, 0, 15, 43, 18, 136]
abbrev dktX5_isName_11 : List UInt8 := dkwX5_isName_11 ++ dktX5_isName_12
def dkwX5_isName_10 : List UInt8 := [43, 18, 130, 182, 0, 80, 153, 0, 51, 16, 13, 61, 167, 0, 45, 43, 18, 132, 182, 0, 80, 153, 0, 36]
abbrev dktX5_isName_10 : List UInt8 := dkwX5_isName_10 ++ dktX5_isName_11
def dkwX5_isName_9 : List UInt8 := [153, 0, 81, 16, 11, 61, 167, 0, 75, 43, 18, 128, 182, 0, 80, 153, 0, 66, 16, 12, 61, 167, 0, 60]
abbrev dktX5_isName_9 : List UInt8 := dkwX5_isName_9 ++ dktX5_isName_10
def dkwX5_isName_8 : List UInt8 := [167, 0, 105, 43, 18, 124, 182, 0, 80, 153, 0, 96, 16, 10, 61, 167, 0, 90, 43, 18, 126, 182, 0, 80]
abbrev dktX5_isName_8 : List UInt8 := dkwX5_isName_8 ++ dktX5_isName_9
def dkwX5_isName_7 : List UInt8 := [182, 0, 80, 153, 0, 126, 16, 8, 61, 167, 0, 120, 43, 18, 122, 182, 0, 80, 153, 0, 111, 16, 9, 61]
abbrev dktX5_isName_7 : List UInt8 := dkwX5_isName_7 ++ dktX5_isName_8
def dkwX5_isName_6 : List UInt8 := [61, 167, 0, 150, 43, 18, 118, 182, 0, 80, 153, 0, 141, 16, 7, 61, 167, 0, 135, 43, 18, 120]
abbrev dktX5_isName_6 : List UInt8 := dkwX5_isName_6 ++ dktX5_isName_7
def dkwX5_isName_5 : List UInt8 := [18, 114, 182, 0, 80, 153, 0, 170, 8, 61, 167, 0, 165, 43, 18, 116, 182, 0, 80, 153, 0, 156, 16, 6]
abbrev dktX5_isName_5 : List UInt8 := dkwX5_isName_5 ++ dktX5_isName_6
def dkwX5_isName_4 : List UInt8 := [153, 0, 198, 6, 61, 167, 0, 193, 43, 18, 112, 182, 0, 80, 153, 0, 184, 7, 61, 167, 0, 179, 43]
abbrev dktX5_isName_4 : List UInt8 := dkwX5_isName_4 ++ dktX5_isName_5
def dkwX5_isName_3 : List UInt8 := [61, 167, 0, 221, 43, 18, 108, 182, 0, 80, 153, 0, 212, 5, 61, 167, 0, 207, 43, 18, 110, 182, 0, 80]
abbrev dktX5_isName_3 : List UInt8 := dkwX5_isName_3 ++ dktX5_isName_4
def dkwX5_isName_2 : List UInt8 := [43, 18, 104, 182, 0, 80, 153, 0, 240, 3, 61, 167, 0, 235, 43, 18, 106, 182, 0, 80, 153, 0, 226, 4]
abbrev dktX5_isName_2 : List UInt8 := dkwX5_isName_2 ++ dktX5_isName_3
def dkwX5_isName_1 : List UInt8 := [171, 0, 0, 0, 0, 1, 137, 0, 0, 0, 17, 0, 0, 13, 227, 0, 0, 1, 110, 0, 1, 121, 215, 0, 0, 1, 95, 0, 1, 146, 154, 0, 0, 1, 5, 0, 1, 170, 211, 0, 0, 1, 125, 0, 1, 202, 238, 0, 0, 0, 217, 0, 47, 45, 68, 0, 0, 0, 231, 0, 48, 192, 111, 0, 0, 0, 175, 0, 48, 205, 240, 0, 0, 1, 80, 0, 50, 160, 7, 0, 0, 1, 20, 0, 51, 6, 95, 0, 0, 1, 50, 0, 51, 6, 205, 0, 0, 0, 246, 0, 56, 136, 61, 0, 0, 1, 65, 5, 206, 187, 80, 0, 0, 0, 203, 5, 206, 210, 176, 0, 0, 0, 161, 6, 45, 211, 70, 0, 0, 0, 147, 6, 119, 194, 28, 0, 0, 1, 35, 6, 188, 80, 212, 0, 0, 0, 189]
abbrev dktX5_isName_1 : List UInt8 := dkwX5_isName_1 ++ dktX5_isName_2
def dkwX5_isName_0 : List UInt8 := [42, 180, 0, 46, 4, 159, 0, 5, 3, 172, 42, 180, 0, 17, 76, 2, 61, 43, 182, 0, 100]
abbrev dktX5_isName_0 : List UInt8 := dkwX5_isName_0 ++ dktX5_isName_1
theorem dksX5_isName_0 : cX5_isName.data.toList.drop 0 = dktX5_isName_0 := by decide +kernel
theorem dksX5_isName_1 : cX5_isName.data.toList.drop 21 = dktX5_isName_1 := dk_seg dksX5_isName_0 21 rfl rfl
theorem dksX5_isName_2 : cX5_isName.data.toList.drop 168 = dktX5_isName_2 := dk_seg dksX5_isName_1 147 rfl rfl
theorem dksX5_isName_3 : cX5_isName.data.toList.drop 192 = dktX5_isName_3 := dk_seg dksX5_isName_2 24 rfl rfl
theorem dksX5_isName_4 : cX5_isName.data.toList.drop 216 = dktX5_isName_4 := dk_seg dksX5_isName_3 24 rfl rfl
theorem dksX5_isName_5 : cX5_isName.data.toList.drop 239 = dktX5_isName_5 := dk_seg dksX5_isName_4 23 rfl rfl
theorem dksX5_isName_6 : cX5_isName.data.toList.drop 263 = dktX5_isName_6 := dk_seg dksX5_isName_5 24 rfl rfl
theorem dksX5_isName_7 : cX5_isName.data.toList.drop 285 = dktX5_isName_7 := dk_seg dksX5_isName_6 22 rfl rfl
theorem dksX5_isName_8 : cX5_isName.data.toList.drop 309 = dktX5_isName_8 := dk_seg dksX5_isName_7 24 rfl rfl
theorem dksX5_isName_9 : cX5_isName.data.toList.drop 333 = dktX5_isName_9 := dk_seg dksX5_isName_8 24 rfl rfl
theorem dksX5_isName_10 : cX5_isName.data.toList.drop 357 = dktX5_isName_10 := dk_seg dksX5_isName_9 24 rfl rfl
theorem dksX5_isName_11 : cX5_isName.data.toList.drop 381 = dktX5_isName_11 := dk_seg dksX5_isName_10 24 rfl rfl
theorem dksX5_isName_12 : cX5_isName.data.toList.drop 405 = dktX5_isName_12 := dk_seg dksX5_isName_11 24 rfl rfl
theorem dksX5_isName_13 : cX5_isName.data.toList.drop 415 = dktX5_isName_13 := dk_seg dksX5_isName_12 10 rfl rfl
theorem dksX5_isName_14 : cX5_isName.data.toList.drop 496 = dktX5_isName_14 := dk_seg dksX5_isName_13 81 rfl rfl
theorem dX5_isName_0 : decode cX5_isName 0 = .ok (.aload_n 0, 1) := dk_42 (dk_at dksX5_isName_0 0 rfl rfl)
theorem dX5_isName_1 : decode cX5_isName 1 = .ok (.getfield 46, 3) := dk_180 0 46 (dk_at dksX5_isName_0 1 rfl rfl)
theorem dX5_isName_4 : decode cX5_isName 4 = .ok (.iconst 1, 1) := dk_4 (dk_at dksX5_isName_0 4 rfl rfl)
theorem dX5_isName_5 : decode cX5_isName 5 = .ok (.if_icmp .eq 5, 3) := dk_159 0 5 (dk_at dksX5_isName_0 5 rfl rfl)
theorem dX5_isName_8 : decode cX5_isName 8 = .ok (.iconst 0, 1) := dk_3 (dk_at dksX5_isName_0 8 rfl rfl)
theorem dX5_isName_9 : decode cX5_isName 9 = .ok (.ireturn, 1) := dk_172 (dk_at dksX5_isName_0 9 rfl rfl)
theorem dX5_isName_10 : decode cX5_isName 10 = .ok (.aload_n 0, 1) := dk_42 (dk_at dksX5_isName_0 10 rfl rfl)
theorem dX5_isName_11 : decode cX5_isName 11 = .ok (.getfield 17, 3) := dk_180 0 17 (dk_at dksX5_isName_0 11 rfl rfl)
theorem dX5_isName_14 : decode cX5_isName 14 = .ok (.astore_n 1, 1) := dk_76 (dk_at dksX5_isName_0 14 rfl rfl)
theorem dX5_isName_15 : decode cX5_isName 15 = .ok (.iconst (-1), 1) := dk_2 (dk_at dksX5_isName_0 15 rfl rfl)
theorem dX5_isName_16 : decode cX5_isName 16 = .ok (.istore_n 2, 1) := dk_61 (dk_at dksX5_isName_0 16 rfl rfl)
theorem dX5_isName_17 : decode cX5_isName 17 = .ok (.aload_n 1, 1) := dk_43 (dk_at dksX5_isName_0 17 rfl rfl)
theorem dX5_isName_18 : decode cX5_isName 18 = .ok (.invokevirtual 100, 3) := dk_182 0 100 (dk_at dksX5_isName_0 18 rfl rfl)
theorem dX5_isName_21 : decode cX5_isName 21 = .ok (.lookupswitch 393 #[(3555, 366), (96727, 351), (103066, 261), (109267, 381), (117486, 217), (3091780, 231), (3194991, 175), (3198448, 336), (3317767, 276), (3343967, 306), (3344077, 246), (3704893, 321), (97434448, 203), (97440432, 161), (103666502, 147), (108511772, 291), (113004756, 189)], 147) := by decide +kernel
theorem dX5_isName_168 : decode cX5_isName 168 = .ok (.aload_n 1, 1) := dk_43 (dk_at dksX5_isName_2 0 rfl rfl)
theorem dX5_isName_169 : decode cX5_isName 169 = .ok (.ldc 104, 2) := dk_18 104 (dk_at dksX5_isName_2 1 rfl rfl)
theorem dX5_isName_171 : decode cX5_isName 171 = .ok (.invokevirtual 80, 3) := dk_182 0 80 (dk_at dksX5_isName_2 3 rfl rfl)
theorem dX5_isName_174 : decode cX5_isName 174 = .ok (.ifCond .eq 240, 3) := dk_153 0 240 (dk_at dksX5_isName_2 6 rfl rfl)
theorem dX5_isName_177 : decode cX5_isName 177 = .ok (.iconst 0, 1) := dk_3 (dk_at dksX5_isName_2 9 rfl rfl)
theorem dX5_isName_178 : decode cX5_isName 178 = .ok (.istore_n 2, 1) := dk_61 (dk_at dksX5_isName_2 10 rfl rfl)
theorem dX5_isName_179 : decode cX5_isName 179 = .ok (.goto 235, 3) := dk_167 0 235 (dk_at dksX5_isName_2 11 rfl rfl)
theorem dX5_isName_182 : decode cX5_isName 182 = .ok (.aload_n 1, 1) := dk_43 (dk_at dksX5_isName_2 14 rfl rfl)
theorem dX5_isName_183 : decode cX5_isName 183 = .ok (.ldc 106, 2) := dk_18 106 (dk_at dksX5_isName_2 15 rfl rfl)
theorem dX5_isName_185 : decode cX5_isName 185 = .ok (.invokevirtual 80, 3) := dk_182 0 80 (dk_at dksX5_isName_2 17 rfl rfl)
theorem dX5_isName_188 : decode cX5_isName 188 = .ok (.ifCond .eq 226, 3) := dk_153 0 226 (dk_at dksX5_isName_2 20 rfl rfl)
theorem dX5_isName_191 : decode cX5_isName 191 = .ok (.iconst 1, 1) := dk_4 (dk_at dksX5_isName_2 23 rfl rfl)
theorem dX5_isName_192 : decode cX5_isName 192 = .ok (.istore_n 2, 1) := dk_61 (dk_at dksX5_isName_3 0 rfl rfl)
theorem dX5_isName_193 : decode cX5_isName 193 = .ok (.goto 221, 3) := dk_167 0 221 (dk_at dksX5_isName_3 1 rfl rfl)
theorem dX5_isName_196 : decode cX5_isName 196 = .ok (.aload_n 1, 1) := dk_43 (dk_at dksX5_isName_3 4 rfl rfl)
theorem dX5_isName_197 : decode cX5_isName 197 = .ok (.ldc 108, 2) := dk_18 108 (dk_at dksX5_isName_3 5 rfl rfl)
theorem dX5_isName_199 : decode cX5_isName 199 = .ok (.invokevirtual 80, 3) := dk_182 0 80 (dk_at dksX5_isName_3 7 rfl rfl)
theorem dX5_isName_202 : decode cX5_isName 202 = .ok (.ifCond .eq 212, 3) := dk_153 0 212 (dk_at dksX5_isName_3 10 rfl rfl)
theorem dX5_isName_205 : decode cX5_isName 205 = .ok (.iconst 2, 1) := dk_5 (dk_at dksX5_isName_3 13 rfl rfl)
theorem dX5_isName_206 : decode cX5_isName 206 = .ok (.istore_n 2, 1) := dk_61 (dk_at dksX5_isName_3 14 rfl rfl)
theorem dX5_isName_207 : decode cX5_isName 207 = .ok (.goto 207, 3) := dk_167 0 207 (dk_at dksX5_isName_3 15 rfl rfl)
theorem dX5_isName_210 : decode cX5_isName 210 = .ok (.aload_n 1, 1) := dk_43 (dk_at dksX5_isName_3 18 rfl rfl)
theorem dX5_isName_211 : decode cX5_isName 211 = .ok (.ldc 110, 2) := dk_18 110 (dk_at dksX5_isName_3 19 rfl rfl)
theorem dX5_isName_213 : decode cX5_isName 213 = .ok (.invokevirtual 80, 3) := dk_182 0 80 (dk_at dksX5_isName_3 21 rfl rfl)
theorem dX5_isName_216 : decode cX5_isName 216 = .ok (.ifCond .eq 198, 3) := dk_153 0 198 (dk_at dksX5_isName_4 0 rfl rfl)
theorem dX5_isName_219 : decode cX5_isName 219 = .ok (.iconst 3, 1) := dk_6 (dk_at dksX5_isName_4 3 rfl rfl)
theorem dX5_isName_220 : decode cX5_isName 220 = .ok (.istore_n 2, 1) := dk_61 (dk_at dksX5_isName_4 4 rfl rfl)
theorem dX5_isName_221 : decode cX5_isName 221 = .ok (.goto 193, 3) := dk_167 0 193 (dk_at dksX5_isName_4 5 rfl rfl)
theorem dX5_isName_224 : decode cX5_isName 224 = .ok (.aload_n 1, 1) := dk_43 (dk_at dksX5_isName_4 8 rfl rfl)
theorem dX5_isName_225 : decode cX5_isName 225 = .ok (.ldc 112, 2) := dk_18 112 (dk_at dksX5_isName_4 9 rfl rfl)
theorem dX5_isName_227 : decode cX5_isName 227 = .ok (.invokevirtual 80, 3) := dk_182 0 80 (dk_at dksX5_isName_4 11 rfl rfl)
theorem dX5_isName_230 : decode cX5_isName 230 = .ok (.ifCond .eq 184, 3) := dk_153 0 184 (dk_at dksX5_isName_4 14 rfl rfl)
theorem dX5_isName_233 : decode cX5_isName 233 = .ok (.iconst 4, 1) := dk_7 (dk_at dksX5_isName_4 17 rfl rfl)
theorem dX5_isName_234 : decode cX5_isName 234 = .ok (.istore_n 2, 1) := dk_61 (dk_at dksX5_isName_4 18 rfl rfl)
theorem dX5_isName_235 : decode cX5_isName 235 = .ok (.goto 179, 3) := dk_167 0 179 (dk_at dksX5_isName_4 19 rfl rfl)
theorem dX5_isName_238 : decode cX5_isName 238 = .ok (.aload_n 1, 1) := dk_43 (dk_at dksX5_isName_4 22 rfl rfl)
theorem dX5_isName_239 : decode cX5_isName 239 = .ok (.ldc 114, 2) := dk_18 114 (dk_at dksX5_isName_5 0 rfl rfl)
theorem dX5_isName_241 : decode cX5_isName 241 = .ok (.invokevirtual 80, 3) := dk_182 0 80 (dk_at dksX5_isName_5 2 rfl rfl)
theorem dX5_isName_244 : decode cX5_isName 244 = .ok (.ifCond .eq 170, 3) := dk_153 0 170 (dk_at dksX5_isName_5 5 rfl rfl)
theorem dX5_isName_247 : decode cX5_isName 247 = .ok (.iconst 5, 1) := dk_8 (dk_at dksX5_isName_5 8 rfl rfl)
theorem dX5_isName_248 : decode cX5_isName 248 = .ok (.istore_n 2, 1) := dk_61 (dk_at dksX5_isName_5 9 rfl rfl)
theorem dX5_isName_249 : decode cX5_isName 249 = .ok (.goto 165, 3) := dk_167 0 165 (dk_at dksX5_isName_5 10 rfl rfl)
theorem dX5_isName_252 : decode cX5_isName 252 = .ok (.aload_n 1, 1) := dk_43 (dk_at dksX5_isName_5 13 rfl rfl)
theorem dX5_isName_253 : decode cX5_isName 253 = .ok (.ldc 116, 2) := dk_18 116 (dk_at dksX5_isName_5 14 rfl rfl)
theorem dX5_isName_255 : decode cX5_isName 255 = .ok (.invokevirtual 80, 3) := dk_182 0 80 (dk_at dksX5_isName_5 16 rfl rfl)
theorem dX5_isName_258 : decode cX5_isName 258 = .ok (.ifCond .eq 156, 3) := dk_153 0 156 (dk_at dksX5_isName_5 19 rfl rfl)
theorem dX5_isName_261 : decode cX5_isName 261 = .ok (.bipush 6, 2) := dk_16 6 (dk_at dksX5_isName_5 22 rfl rfl)
theorem dX5_isName_263 : decode cX5_isName 263 = .ok (.istore_n 2, 1) := dk_61 (dk_at dksX5_isName_6 0 rfl rfl)
theorem dX5_isName_264 : decode cX5_isName 264 = .ok (.goto 150, 3) := dk_167 0 150 (dk_at dksX5_isName_6 1 rfl rfl)
theorem dX5_isName_267 : decode cX5_isName 267 = .ok (.aload_n 1, 1) := dk_43 (dk_at dksX5_isName_6 4 rfl rfl)
theorem dX5_isName_268 : decode cX5_isName 268 = .ok (.ldc 118, 2) := dk_18 118 (dk_at dksX5_isName_6 5 rfl rfl)
theorem dX5_isName_270 : decode cX5_isName 270 = .ok (.invokevirtual 80, 3) := dk_182 0 80 (dk_at dksX5_isName_6 7 rfl rfl)
theorem dX5_isName_273 : decode cX5_isName 273 = .ok (.ifCond .eq 141, 3) := dk_153 0 141 (dk_at dksX5_isName_6 10 rfl rfl)
theorem dX5_isName_276 : decode cX5_isName 276 = .ok (.bipush 7, 2) := dk_16 7 (dk_at dksX5_isName_6 13 rfl rfl)
theorem dX5_isName_278 : decode cX5_isName 278 = .ok (.istore_n 2, 1) := dk_61 (dk_at dksX5_isName_6 15 rfl rfl)
theorem dX5_isName_279 : decode cX5_isName 279 = .ok (.goto 135, 3) := dk_167 0 135 (dk_at dksX5_isName_6 16 rfl rfl)
theorem dX5_isName_282 : decode cX5_isName 282 = .ok (.aload_n 1, 1) := dk_43 (dk_at dksX5_isName_6 19 rfl rfl)
theorem dX5_isName_283 : decode cX5_isName 283 = .ok (.ldc 120, 2) := dk_18 120 (dk_at dksX5_isName_6 20 rfl rfl)
theorem dX5_isName_285 : decode cX5_isName 285 = .ok (.invokevirtual 80, 3) := dk_182 0 80 (dk_at dksX5_isName_7 0 rfl rfl)
theorem dX5_isName_288 : decode cX5_isName 288 = .ok (.ifCond .eq 126, 3) := dk_153 0 126 (dk_at dksX5_isName_7 3 rfl rfl)
theorem dX5_isName_291 : decode cX5_isName 291 = .ok (.bipush 8, 2) := dk_16 8 (dk_at dksX5_isName_7 6 rfl rfl)
theorem dX5_isName_293 : decode cX5_isName 293 = .ok (.istore_n 2, 1) := dk_61 (dk_at dksX5_isName_7 8 rfl rfl)
theorem dX5_isName_294 : decode cX5_isName 294 = .ok (.goto 120, 3) := dk_167 0 120 (dk_at dksX5_isName_7 9 rfl rfl)
theorem dX5_isName_297 : decode cX5_isName 297 = .ok (.aload_n 1, 1) := dk_43 (dk_at dksX5_isName_7 12 rfl rfl)
theorem dX5_isName_298 : decode cX5_isName 298 = .ok (.ldc 122, 2) := dk_18 122 (dk_at dksX5_isName_7 13 rfl rfl)
theorem dX5_isName_300 : decode cX5_isName 300 = .ok (.invokevirtual 80, 3) := dk_182 0 80 (dk_at dksX5_isName_7 15 rfl rfl)
theorem dX5_isName_303 : decode cX5_isName 303 = .ok (.ifCond .eq 111, 3) := dk_153 0 111 (dk_at dksX5_isName_7 18 rfl rfl)
theorem dX5_isName_306 : decode cX5_isName 306 = .ok (.bipush 9, 2) := dk_16 9 (dk_at dksX5_isName_7 21 rfl rfl)
theorem dX5_isName_308 : decode cX5_isName 308 = .ok (.istore_n 2, 1) := dk_61 (dk_at dksX5_isName_7 23 rfl rfl)
theorem dX5_isName_309 : decode cX5_isName 309 = .ok (.goto 105, 3) := dk_167 0 105 (dk_at dksX5_isName_8 0 rfl rfl)
theorem dX5_isName_312 : decode cX5_isName 312 = .ok (.aload_n 1, 1) := dk_43 (dk_at dksX5_isName_8 3 rfl rfl)
theorem dX5_isName_313 : decode cX5_isName 313 = .ok (.ldc 124, 2) := dk_18 124 (dk_at dksX5_isName_8 4 rfl rfl)
theorem dX5_isName_315 : decode cX5_isName 315 = .ok (.invokevirtual 80, 3) := dk_182 0 80 (dk_at dksX5_isName_8 6 rfl rfl)
theorem dX5_isName_318 : decode cX5_isName 318 = .ok (.ifCond .eq 96, 3) := dk_153 0 96 (dk_at dksX5_isName_8 9 rfl rfl)
theorem dX5_isName_321 : decode cX5_isName 321 = .ok (.bipush 10, 2) := dk_16 10 (dk_at dksX5_isName_8 12 rfl rfl)
theorem dX5_isName_323 : decode cX5_isName 323 = .ok (.istore_n 2, 1) := dk_61 (dk_at dksX5_isName_8 14 rfl rfl)
theorem dX5_isName_324 : decode cX5_isName 324 = .ok (.goto 90, 3) := dk_167 0 90 (dk_at dksX5_isName_8 15 rfl rfl)
theorem dX5_isName_327 : decode cX5_isName 327 = .ok (.aload_n 1, 1) := dk_43 (dk_at dksX5_isName_8 18 rfl rfl)
theorem dX5_isName_328 : decode cX5_isName 328 = .ok (.ldc 126, 2) := dk_18 126 (dk_at dksX5_isName_8 19 rfl rfl)
theorem dX5_isName_330 : decode cX5_isName 330 = .ok (.invokevirtual 80, 3) := dk_182 0 80 (dk_at dksX5_isName_8 21 rfl rfl)
theorem dX5_isName_333 : decode cX5_isName 333 = .ok (.ifCond .eq 81, 3) := dk_153 0 81 (dk_at dksX5_isName_9 0 rfl rfl)
theorem dX5_isName_336 : decode cX5_isName 336 = .ok (.bipush 11, 2) := dk_16 11 (dk_at dksX5_isName_9 3 rfl rfl)
theorem dX5_isName_338 : decode cX5_isName 338 = .ok (.istore_n 2, 1) := dk_61 (dk_at dksX5_isName_9 5 rfl rfl)
theorem dX5_isName_339 : decode cX5_isName 339 = .ok (.goto 75, 3) := dk_167 0 75 (dk_at dksX5_isName_9 6 rfl rfl)
theorem dX5_isName_342 : decode cX5_isName 342 = .ok (.aload_n 1, 1) := dk_43 (dk_at dksX5_isName_9 9 rfl rfl)
theorem dX5_isName_343 : decode cX5_isName 343 = .ok (.ldc 128, 2) := dk_18 128 (dk_at dksX5_isName_9 10 rfl rfl)
theorem dX5_isName_345 : decode cX5_isName 345 = .ok (.invokevirtual 80, 3) := dk_182 0 80 (dk_at dksX5_isName_9 12 rfl rfl)
theorem dX5_isName_348 : decode cX5_isName 348 = .ok (.ifCond .eq 66, 3) := dk_153 0 66 (dk_at dksX5_isName_9 15 rfl rfl)
theorem dX5_isName_351 : decode cX5_isName 351 = .ok (.bipush 12, 2) := dk_16 12 (dk_at dksX5_isName_9 18 rfl rfl)
theorem dX5_isName_353 : decode cX5_isName 353 = .ok (.istore_n 2, 1) := dk_61 (dk_at dksX5_isName_9 20 rfl rfl)
theorem dX5_isName_354 : decode cX5_isName 354 = .ok (.goto 60, 3) := dk_167 0 60 (dk_at dksX5_isName_9 21 rfl rfl)
theorem dX5_isName_357 : decode cX5_isName 357 = .ok (.aload_n 1, 1) := dk_43 (dk_at dksX5_isName_10 0 rfl rfl)
theorem dX5_isName_358 : decode cX5_isName 358 = .ok (.ldc 130, 2) := dk_18 130 (dk_at dksX5_isName_10 1 rfl rfl)
theorem dX5_isName_360 : decode cX5_isName 360 = .ok (.invokevirtual 80, 3) := dk_182 0 80 (dk_at dksX5_isName_10 3 rfl rfl)
theorem dX5_isName_363 : decode cX5_isName 363 = .ok (.ifCond .eq 51, 3) := dk_153 0 51 (dk_at dksX5_isName_10 6 rfl rfl)
theorem dX5_isName_366 : decode cX5_isName 366 = .ok (.bipush 13, 2) := dk_16 13 (dk_at dksX5_isName_10 9 rfl rfl)
theorem dX5_isName_368 : decode cX5_isName 368 = .ok (.istore_n 2, 1) := dk_61 (dk_at dksX5_isName_10 11 rfl rfl)
theorem dX5_isName_369 : decode cX5_isName 369 = .ok (.goto 45, 3) := dk_167 0 45 (dk_at dksX5_isName_10 12 rfl rfl)
theorem dX5_isName_372 : decode cX5_isName 372 = .ok (.aload_n 1, 1) := dk_43 (dk_at dksX5_isName_10 15 rfl rfl)
theorem dX5_isName_373 : decode cX5_isName 373 = .ok (.ldc 132, 2) := dk_18 132 (dk_at dksX5_isName_10 16 rfl rfl)
theorem dX5_isName_375 : decode cX5_isName 375 = .ok (.invokevirtual 80, 3) := dk_182 0 80 (dk_at dksX5_isName_10 18 rfl rfl)
theorem dX5_isName_378 : decode cX5_isName 378 = .ok (.ifCond .eq 36, 3) := dk_153 0 36 (dk_at dksX5_isName_10 21 rfl rfl)
theorem dX5_isName_381 : decode cX5_isName 381 = .ok (.bipush 14, 2) := dk_16 14 (dk_at dksX5_isName_11 0 rfl rfl)
theorem dX5_isName_383 : decode cX5_isName 383 = .ok (.istore_n 2, 1) := dk_61 (dk_at dksX5_isName_11 2 rfl rfl)
theorem dX5_isName_384 : decode cX5_isName 384 = .ok (.goto 30, 3) := dk_167 0 30 (dk_at dksX5_isName_11 3 rfl rfl)
theorem dX5_isName_387 : decode cX5_isName 387 = .ok (.aload_n 1, 1) := dk_43 (dk_at dksX5_isName_11 6 rfl rfl)
theorem dX5_isName_388 : decode cX5_isName 388 = .ok (.ldc 134, 2) := dk_18 134 (dk_at dksX5_isName_11 7 rfl rfl)
theorem dX5_isName_390 : decode cX5_isName 390 = .ok (.invokevirtual 80, 3) := dk_182 0 80 (dk_at dksX5_isName_11 9 rfl rfl)
theorem dX5_isName_393 : decode cX5_isName 393 = .ok (.ifCond .eq 21, 3) := dk_153 0 21 (dk_at dksX5_isName_11 12 rfl rfl)
theorem dX5_isName_396 : decode cX5_isName 396 = .ok (.bipush 15, 2) := dk_16 15 (dk_at dksX5_isName_11 15 rfl rfl)
theorem dX5_isName_398 : decode cX5_isName 398 = .ok (.istore_n 2, 1) := dk_61 (dk_at dksX5_isName_11 17 rfl rfl)
theorem dX5_isName_399 : decode cX5_isName 399 = .ok (.goto 15, 3) := dk_167 0 15 (dk_at dksX5_isName_11 18 rfl rfl)
theorem dX5_isName_402 : decode cX5_isName 402 = .ok (.aload_n 1, 1) := dk_43 (dk_at dksX5_isName_11 21 rfl rfl)
theorem dX5_isName_403 : decode cX5_isName 403 = .ok (.ldc 136, 2) := dk_18 136 (dk_at dksX5_isName_11 22 rfl rfl)
theorem dX5_isName_405 : decode cX5_isName 405 = .ok (.invokevirtual 80, 3) := dk_182 0 80 (dk_at dksX5_isName_12 0 rfl rfl)
theorem dX5_isName_408 : decode cX5_isName 408 = .ok (.ifCond .eq 6, 3) := dk_153 0 6 (dk_at dksX5_isName_12 3 rfl rfl)
theorem dX5_isName_411 : decode cX5_isName 411 = .ok (.bipush 16, 2) := dk_16 16 (dk_at dksX5_isName_12 6 rfl rfl)
theorem dX5_isName_413 : decode cX5_isName 413 = .ok (.istore_n 2, 1) := dk_61 (dk_at dksX5_isName_12 8 rfl rfl)
theorem dX5_isName_414 : decode cX5_isName 414 = .ok (.iload_n 2, 1) := dk_28 (dk_at dksX5_isName_12 9 rfl rfl)
theorem dX5_isName_415 : decode cX5_isName 415 = .ok (.tableswitch 83 0 16 #[81, 81, 81, 81, 81, 81, 81, 81, 81, 81, 81, 81, 81, 81, 81, 81, 81], 81) := by decide +kernel
theorem dX5_isName_496 : decode cX5_isName 496 = .ok (.iconst 0, 1) := dk_3 (dk_at dksX5_isName_14 0 rfl rfl)
theorem dX5_isName_497 : decode cX5_isName 497 = .ok (.ireturn, 1) := dk_172 (dk_at dksX5_isName_14 1 rfl rfl)
theorem dX5_isName_498 : decode cX5_isName 498 = .ok (.iconst 1, 1) := dk_4 (dk_at dksX5_isName_14 2 rfl rfl)
theorem dX5_isName_499 : decode cX5_isName 499 = .ok (.ireturn, 1) := dk_172 (dk_at dksX5_isName_14 3 rfl rfl)
abbrev cX5_key : ByteArray := prog_21_method_10_code
def yX5_key : MethodName := ⟨RX5, "key", "(Ljava/lang/String;)V"⟩
def dkwX5_key_0 : List UInt8 := [42, 43, 182, 0, 93, 154, 0, 8, 42, 182, 0, 96, 191, 177]
abbrev dktX5_key_0 : List UInt8 := dkwX5_key_0 ++ []
theorem dksX5_key_0 : cX5_key.data.toList.drop 0 = dktX5_key_0 := by decide +kernel
theorem dX5_key_0 : decode cX5_key 0 = .ok (.aload_n 0, 1) := dk_42 (dk_at dksX5_key_0 0 rfl rfl)
theorem dX5_key_1 : decode cX5_key 1 = .ok (.aload_n 1, 1) := dk_43 (dk_at dksX5_key_0 1 rfl rfl)
theorem dX5_key_2 : decode cX5_key 2 = .ok (.invokevirtual 93, 3) := dk_182 0 93 (dk_at dksX5_key_0 2 rfl rfl)
theorem dX5_key_5 : decode cX5_key 5 = .ok (.ifCond .ne 8, 3) := dk_154 0 8 (dk_at dksX5_key_0 5 rfl rfl)
theorem dX5_key_8 : decode cX5_key 8 = .ok (.aload_n 0, 1) := dk_42 (dk_at dksX5_key_0 8 rfl rfl)
theorem dX5_key_9 : decode cX5_key 9 = .ok (.invokevirtual 96, 3) := dk_182 0 96 (dk_at dksX5_key_0 9 rfl rfl)
theorem dX5_key_12 : decode cX5_key 12 = .ok (.athrow, 1) := dk_191 (dk_at dksX5_key_0 12 rfl rfl)
theorem dX5_key_13 : decode cX5_key 13 = .ok (.return_, 1) := dk_177 (dk_at dksX5_key_0 13 rfl rfl)
abbrev cX5_takes : ByteArray := prog_21_method_9_code
def yX5_takes : MethodName := ⟨RX5, "takes", "(Ljava/lang/String;)Z"⟩
def dkwX5_takes_0 : List UInt8 := [42, 43, 182, 0, 86, 61, 28, 153, 0, 7, 42, 182, 0, 90, 28, 172]
abbrev dktX5_takes_0 : List UInt8 := dkwX5_takes_0 ++ []
theorem dksX5_takes_0 : cX5_takes.data.toList.drop 0 = dktX5_takes_0 := by decide +kernel
theorem dX5_takes_0 : decode cX5_takes 0 = .ok (.aload_n 0, 1) := dk_42 (dk_at dksX5_takes_0 0 rfl rfl)
theorem dX5_takes_1 : decode cX5_takes 1 = .ok (.aload_n 1, 1) := dk_43 (dk_at dksX5_takes_0 1 rfl rfl)
theorem dX5_takes_2 : decode cX5_takes 2 = .ok (.invokevirtual 86, 3) := dk_182 0 86 (dk_at dksX5_takes_0 2 rfl rfl)
theorem dX5_takes_5 : decode cX5_takes 5 = .ok (.istore_n 2, 1) := dk_61 (dk_at dksX5_takes_0 5 rfl rfl)
theorem dX5_takes_6 : decode cX5_takes 6 = .ok (.iload_n 2, 1) := dk_28 (dk_at dksX5_takes_0 6 rfl rfl)
theorem dX5_takes_7 : decode cX5_takes 7 = .ok (.ifCond .eq 7, 3) := dk_153 0 7 (dk_at dksX5_takes_0 7 rfl rfl)
theorem dX5_takes_10 : decode cX5_takes 10 = .ok (.aload_n 0, 1) := dk_42 (dk_at dksX5_takes_0 10 rfl rfl)
theorem dX5_takes_11 : decode cX5_takes 11 = .ok (.invokevirtual 90, 3) := dk_182 0 90 (dk_at dksX5_takes_0 11 rfl rfl)
theorem dX5_takes_14 : decode cX5_takes 14 = .ok (.iload_n 2, 1) := dk_28 (dk_at dksX5_takes_0 14 rfl rfl)
theorem dX5_takes_15 : decode cX5_takes 15 = .ok (.ireturn, 1) := dk_172 (dk_at dksX5_takes_0 15 rfl rfl)
abbrev cX5_e : ByteArray := prog_21_method_20_code
def yX5_e : MethodName := ⟨RX5, "e", "()LSealCasts$Node;"⟩
def dkwX5_e_0 : List UInt8 := [42, 3, 181, 0, 209, 42, 3, 181, 0, 212, 42, 182, 0, 215, 176]
abbrev dktX5_e_0 : List UInt8 := dkwX5_e_0 ++ []
theorem dksX5_e_0 : cX5_e.data.toList.drop 0 = dktX5_e_0 := by decide +kernel
theorem dX5_e_0 : decode cX5_e 0 = .ok (.aload_n 0, 1) := dk_42 (dk_at dksX5_e_0 0 rfl rfl)
theorem dX5_e_1 : decode cX5_e 1 = .ok (.iconst 0, 1) := dk_3 (dk_at dksX5_e_0 1 rfl rfl)
theorem dX5_e_2 : decode cX5_e 2 = .ok (.putfield 209, 3) := dk_181 0 209 (dk_at dksX5_e_0 2 rfl rfl)
theorem dX5_e_5 : decode cX5_e 5 = .ok (.aload_n 0, 1) := dk_42 (dk_at dksX5_e_0 5 rfl rfl)
theorem dX5_e_6 : decode cX5_e 6 = .ok (.iconst 0, 1) := dk_3 (dk_at dksX5_e_0 6 rfl rfl)
theorem dX5_e_7 : decode cX5_e 7 = .ok (.putfield 212, 3) := dk_181 0 212 (dk_at dksX5_e_0 7 rfl rfl)
theorem dX5_e_10 : decode cX5_e 10 = .ok (.aload_n 0, 1) := dk_42 (dk_at dksX5_e_0 10 rfl rfl)
theorem dX5_e_11 : decode cX5_e 11 = .ok (.invokevirtual 215, 3) := dk_182 0 215 (dk_at dksX5_e_0 11 rfl rfl)
theorem dX5_e_14 : decode cX5_e 14 = .ok (.areturn, 1) := dk_176 (dk_at dksX5_e_0 14 rfl rfl)
abbrev cX5_both : ByteArray := prog_21_method_21_code
def yX5_both : MethodName := ⟨RX5, "both", "()LSealCasts$Node;"⟩
def dkwX5_both_1 : List UInt8 := [16, 124, 183, 0, 223, 76, 167, 255, 232, 43, 176]
abbrev dktX5_both_1 : List UInt8 := dkwX5_both_1 ++ []
def dkwX5_both_0 : List UInt8 := [42, 182, 0, 218, 76, 42, 18, 134, 182, 0, 93, 153, 0, 21, 187, 0, 221, 89, 43, 42, 182, 0, 218]
abbrev dktX5_both_0 : List UInt8 := dkwX5_both_0 ++ dktX5_both_1
theorem dksX5_both_0 : cX5_both.data.toList.drop 0 = dktX5_both_0 := by decide +kernel
theorem dksX5_both_1 : cX5_both.data.toList.drop 23 = dktX5_both_1 := dk_seg dksX5_both_0 23 rfl rfl
theorem dX5_both_0 : decode cX5_both 0 = .ok (.aload_n 0, 1) := dk_42 (dk_at dksX5_both_0 0 rfl rfl)
theorem dX5_both_1 : decode cX5_both 1 = .ok (.invokevirtual 218, 3) := dk_182 0 218 (dk_at dksX5_both_0 1 rfl rfl)
theorem dX5_both_4 : decode cX5_both 4 = .ok (.astore_n 1, 1) := dk_76 (dk_at dksX5_both_0 4 rfl rfl)
theorem dX5_both_5 : decode cX5_both 5 = .ok (.aload_n 0, 1) := dk_42 (dk_at dksX5_both_0 5 rfl rfl)
theorem dX5_both_6 : decode cX5_both 6 = .ok (.ldc 134, 2) := dk_18 134 (dk_at dksX5_both_0 6 rfl rfl)
theorem dX5_both_8 : decode cX5_both 8 = .ok (.invokevirtual 93, 3) := dk_182 0 93 (dk_at dksX5_both_0 8 rfl rfl)
theorem dX5_both_11 : decode cX5_both 11 = .ok (.ifCond .eq 21, 3) := dk_153 0 21 (dk_at dksX5_both_0 11 rfl rfl)
theorem dX5_both_14 : decode cX5_both 14 = .ok (.new 221, 3) := dk_187 0 221 (dk_at dksX5_both_0 14 rfl rfl)
theorem dX5_both_17 : decode cX5_both 17 = .ok (.dup, 1) := dk_89 (dk_at dksX5_both_0 17 rfl rfl)
theorem dX5_both_18 : decode cX5_both 18 = .ok (.aload_n 1, 1) := dk_43 (dk_at dksX5_both_0 18 rfl rfl)
theorem dX5_both_19 : decode cX5_both 19 = .ok (.aload_n 0, 1) := dk_42 (dk_at dksX5_both_0 19 rfl rfl)
theorem dX5_both_20 : decode cX5_both 20 = .ok (.invokevirtual 218, 3) := dk_182 0 218 (dk_at dksX5_both_0 20 rfl rfl)
theorem dX5_both_23 : decode cX5_both 23 = .ok (.bipush 124, 2) := dk_16 124 (dk_at dksX5_both_1 0 rfl rfl)
theorem dX5_both_25 : decode cX5_both 25 = .ok (.invokespecial 223, 3) := dk_183 0 223 (dk_at dksX5_both_1 2 rfl rfl)
theorem dX5_both_28 : decode cX5_both 28 = .ok (.astore_n 1, 1) := dk_76 (dk_at dksX5_both_1 5 rfl rfl)
theorem dX5_both_29 : decode cX5_both 29 = .ok (.goto (-24), 3) := dk_167 255 232 (dk_at dksX5_both_1 6 rfl rfl)
theorem dX5_both_32 : decode cX5_both 32 = .ok (.aload_n 1, 1) := dk_43 (dk_at dksX5_both_1 9 rfl rfl)
theorem dX5_both_33 : decode cX5_both 33 = .ok (.areturn, 1) := dk_176 (dk_at dksX5_both_1 10 rfl rfl)
abbrev cX5_all : ByteArray := prog_21_method_22_code
def yX5_all : MethodName := ⟨RX5, "all", "()LSealCasts$Node;"⟩
def dkwX5_all_1 : List UInt8 := [16, 38, 183, 0, 223, 76, 167, 255, 232, 43, 176]
abbrev dktX5_all_1 : List UInt8 := dkwX5_all_1 ++ []
def dkwX5_all_0 : List UInt8 := [42, 182, 0, 226, 76, 42, 18, 132, 182, 0, 93, 153, 0, 21, 187, 0, 221, 89, 43, 42, 182, 0, 226]
abbrev dktX5_all_0 : List UInt8 := dkwX5_all_0 ++ dktX5_all_1
theorem dksX5_all_0 : cX5_all.data.toList.drop 0 = dktX5_all_0 := by decide +kernel
theorem dksX5_all_1 : cX5_all.data.toList.drop 23 = dktX5_all_1 := dk_seg dksX5_all_0 23 rfl rfl
theorem dX5_all_0 : decode cX5_all 0 = .ok (.aload_n 0, 1) := dk_42 (dk_at dksX5_all_0 0 rfl rfl)
theorem dX5_all_1 : decode cX5_all 1 = .ok (.invokevirtual 226, 3) := dk_182 0 226 (dk_at dksX5_all_0 1 rfl rfl)
theorem dX5_all_4 : decode cX5_all 4 = .ok (.astore_n 1, 1) := dk_76 (dk_at dksX5_all_0 4 rfl rfl)
theorem dX5_all_5 : decode cX5_all 5 = .ok (.aload_n 0, 1) := dk_42 (dk_at dksX5_all_0 5 rfl rfl)
theorem dX5_all_6 : decode cX5_all 6 = .ok (.ldc 132, 2) := dk_18 132 (dk_at dksX5_all_0 6 rfl rfl)
theorem dX5_all_8 : decode cX5_all 8 = .ok (.invokevirtual 93, 3) := dk_182 0 93 (dk_at dksX5_all_0 8 rfl rfl)
theorem dX5_all_11 : decode cX5_all 11 = .ok (.ifCond .eq 21, 3) := dk_153 0 21 (dk_at dksX5_all_0 11 rfl rfl)
theorem dX5_all_14 : decode cX5_all 14 = .ok (.new 221, 3) := dk_187 0 221 (dk_at dksX5_all_0 14 rfl rfl)
theorem dX5_all_17 : decode cX5_all 17 = .ok (.dup, 1) := dk_89 (dk_at dksX5_all_0 17 rfl rfl)
theorem dX5_all_18 : decode cX5_all 18 = .ok (.aload_n 1, 1) := dk_43 (dk_at dksX5_all_0 18 rfl rfl)
theorem dX5_all_19 : decode cX5_all 19 = .ok (.aload_n 0, 1) := dk_42 (dk_at dksX5_all_0 19 rfl rfl)
theorem dX5_all_20 : decode cX5_all 20 = .ok (.invokevirtual 226, 3) := dk_182 0 226 (dk_at dksX5_all_0 20 rfl rfl)
theorem dX5_all_23 : decode cX5_all 23 = .ok (.bipush 38, 2) := dk_16 38 (dk_at dksX5_all_1 0 rfl rfl)
theorem dX5_all_25 : decode cX5_all 25 = .ok (.invokespecial 223, 3) := dk_183 0 223 (dk_at dksX5_all_1 2 rfl rfl)
theorem dX5_all_28 : decode cX5_all 28 = .ok (.astore_n 1, 1) := dk_76 (dk_at dksX5_all_1 5 rfl rfl)
theorem dX5_all_29 : decode cX5_all 29 = .ok (.goto (-24), 3) := dk_167 255 232 (dk_at dksX5_all_1 6 rfl rfl)
theorem dX5_all_32 : decode cX5_all 32 = .ok (.aload_n 1, 1) := dk_43 (dk_at dksX5_all_1 9 rfl rfl)
theorem dX5_all_33 : decode cX5_all 33 = .ok (.areturn, 1) := dk_176 (dk_at dksX5_all_1 10 rfl rfl)
abbrev cX5_one : ByteArray := prog_21_method_23_code
def yX5_one : MethodName := ⟨RX5, "one", "()LSealCasts$Node;"⟩
def dkwX5_one_4 : List UInt8 := [180, 0, 46, 146, 61, 42, 182, 0, 90, 187, 0, 221, 89, 43, 42, 182, 0, 234, 28, 183, 0, 223, 176]
abbrev dktX5_one_4 : List UInt8 := dkwX5_one_4 ++ []
def dkwX5_one_3 : List UInt8 := [159, 0, 23, 42, 180, 0, 46, 16, 62, 159, 0, 14, 42, 180, 0, 46, 16, 61, 159, 0, 5, 43, 176, 42]
abbrev dktX5_one_3 : List UInt8 := dkwX5_one_3 ++ dktX5_one_4
def dkwX5_one_2 : List UInt8 := [76, 42, 89, 180, 0, 209, 4, 100, 181, 0, 209, 43, 176, 42, 182, 0, 234, 76, 42, 180, 0, 46, 16, 60]
abbrev dktX5_one_2 : List UInt8 := dkwX5_one_2 ++ dktX5_one_3
def dkwX5_one_1 : List UInt8 := [89, 180, 0, 209, 4, 96, 181, 0, 209, 42, 182, 0, 90, 187, 0, 229, 89, 42, 182, 0, 226, 183, 0, 231]
abbrev dktX5_one_1 : List UInt8 := dkwX5_one_1 ++ dktX5_one_2
def dkwX5_one_0 : List UInt8 := [42, 18, 136, 182, 0, 86, 153, 0, 55, 42, 180, 0, 209, 16, 6, 164, 0, 8, 42, 182, 0, 96, 191, 42]
abbrev dktX5_one_0 : List UInt8 := dkwX5_one_0 ++ dktX5_one_1
theorem dksX5_one_0 : cX5_one.data.toList.drop 0 = dktX5_one_0 := by decide +kernel
theorem dksX5_one_1 : cX5_one.data.toList.drop 24 = dktX5_one_1 := dk_seg dksX5_one_0 24 rfl rfl
theorem dksX5_one_2 : cX5_one.data.toList.drop 48 = dktX5_one_2 := dk_seg dksX5_one_1 24 rfl rfl
theorem dksX5_one_3 : cX5_one.data.toList.drop 72 = dktX5_one_3 := dk_seg dksX5_one_2 24 rfl rfl
theorem dksX5_one_4 : cX5_one.data.toList.drop 96 = dktX5_one_4 := dk_seg dksX5_one_3 24 rfl rfl
theorem dX5_one_0 : decode cX5_one 0 = .ok (.aload_n 0, 1) := dk_42 (dk_at dksX5_one_0 0 rfl rfl)
theorem dX5_one_1 : decode cX5_one 1 = .ok (.ldc 136, 2) := dk_18 136 (dk_at dksX5_one_0 1 rfl rfl)
theorem dX5_one_3 : decode cX5_one 3 = .ok (.invokevirtual 86, 3) := dk_182 0 86 (dk_at dksX5_one_0 3 rfl rfl)
theorem dX5_one_6 : decode cX5_one 6 = .ok (.ifCond .eq 55, 3) := dk_153 0 55 (dk_at dksX5_one_0 6 rfl rfl)
theorem dX5_one_9 : decode cX5_one 9 = .ok (.aload_n 0, 1) := dk_42 (dk_at dksX5_one_0 9 rfl rfl)
theorem dX5_one_10 : decode cX5_one 10 = .ok (.getfield 209, 3) := dk_180 0 209 (dk_at dksX5_one_0 10 rfl rfl)
theorem dX5_one_13 : decode cX5_one 13 = .ok (.bipush 6, 2) := dk_16 6 (dk_at dksX5_one_0 13 rfl rfl)
theorem dX5_one_15 : decode cX5_one 15 = .ok (.if_icmp .le 8, 3) := dk_164 0 8 (dk_at dksX5_one_0 15 rfl rfl)
theorem dX5_one_18 : decode cX5_one 18 = .ok (.aload_n 0, 1) := dk_42 (dk_at dksX5_one_0 18 rfl rfl)
theorem dX5_one_19 : decode cX5_one 19 = .ok (.invokevirtual 96, 3) := dk_182 0 96 (dk_at dksX5_one_0 19 rfl rfl)
theorem dX5_one_22 : decode cX5_one 22 = .ok (.athrow, 1) := dk_191 (dk_at dksX5_one_0 22 rfl rfl)
theorem dX5_one_23 : decode cX5_one 23 = .ok (.aload_n 0, 1) := dk_42 (dk_at dksX5_one_0 23 rfl rfl)
theorem dX5_one_24 : decode cX5_one 24 = .ok (.dup, 1) := dk_89 (dk_at dksX5_one_1 0 rfl rfl)
theorem dX5_one_25 : decode cX5_one 25 = .ok (.getfield 209, 3) := dk_180 0 209 (dk_at dksX5_one_1 1 rfl rfl)
theorem dX5_one_28 : decode cX5_one 28 = .ok (.iconst 1, 1) := dk_4 (dk_at dksX5_one_1 4 rfl rfl)
theorem dX5_one_29 : decode cX5_one 29 = .ok (.iadd, 1) := dk_96 (dk_at dksX5_one_1 5 rfl rfl)
theorem dX5_one_30 : decode cX5_one 30 = .ok (.putfield 209, 3) := dk_181 0 209 (dk_at dksX5_one_1 6 rfl rfl)
theorem dX5_one_33 : decode cX5_one 33 = .ok (.aload_n 0, 1) := dk_42 (dk_at dksX5_one_1 9 rfl rfl)
theorem dX5_one_34 : decode cX5_one 34 = .ok (.invokevirtual 90, 3) := dk_182 0 90 (dk_at dksX5_one_1 10 rfl rfl)
theorem dX5_one_37 : decode cX5_one 37 = .ok (.new 229, 3) := dk_187 0 229 (dk_at dksX5_one_1 13 rfl rfl)
theorem dX5_one_40 : decode cX5_one 40 = .ok (.dup, 1) := dk_89 (dk_at dksX5_one_1 16 rfl rfl)
theorem dX5_one_41 : decode cX5_one 41 = .ok (.aload_n 0, 1) := dk_42 (dk_at dksX5_one_1 17 rfl rfl)
theorem dX5_one_42 : decode cX5_one 42 = .ok (.invokevirtual 226, 3) := dk_182 0 226 (dk_at dksX5_one_1 18 rfl rfl)
theorem dX5_one_45 : decode cX5_one 45 = .ok (.invokespecial 231, 3) := dk_183 0 231 (dk_at dksX5_one_1 21 rfl rfl)
theorem dX5_one_48 : decode cX5_one 48 = .ok (.astore_n 1, 1) := dk_76 (dk_at dksX5_one_2 0 rfl rfl)
theorem dX5_one_49 : decode cX5_one 49 = .ok (.aload_n 0, 1) := dk_42 (dk_at dksX5_one_2 1 rfl rfl)
theorem dX5_one_50 : decode cX5_one 50 = .ok (.dup, 1) := dk_89 (dk_at dksX5_one_2 2 rfl rfl)
theorem dX5_one_51 : decode cX5_one 51 = .ok (.getfield 209, 3) := dk_180 0 209 (dk_at dksX5_one_2 3 rfl rfl)
theorem dX5_one_54 : decode cX5_one 54 = .ok (.iconst 1, 1) := dk_4 (dk_at dksX5_one_2 6 rfl rfl)
theorem dX5_one_55 : decode cX5_one 55 = .ok (.isub, 1) := dk_100 (dk_at dksX5_one_2 7 rfl rfl)
theorem dX5_one_56 : decode cX5_one 56 = .ok (.putfield 209, 3) := dk_181 0 209 (dk_at dksX5_one_2 8 rfl rfl)
theorem dX5_one_59 : decode cX5_one 59 = .ok (.aload_n 1, 1) := dk_43 (dk_at dksX5_one_2 11 rfl rfl)
theorem dX5_one_60 : decode cX5_one 60 = .ok (.areturn, 1) := dk_176 (dk_at dksX5_one_2 12 rfl rfl)
theorem dX5_one_61 : decode cX5_one 61 = .ok (.aload_n 0, 1) := dk_42 (dk_at dksX5_one_2 13 rfl rfl)
theorem dX5_one_62 : decode cX5_one 62 = .ok (.invokevirtual 234, 3) := dk_182 0 234 (dk_at dksX5_one_2 14 rfl rfl)
theorem dX5_one_65 : decode cX5_one 65 = .ok (.astore_n 1, 1) := dk_76 (dk_at dksX5_one_2 17 rfl rfl)
theorem dX5_one_66 : decode cX5_one 66 = .ok (.aload_n 0, 1) := dk_42 (dk_at dksX5_one_2 18 rfl rfl)
theorem dX5_one_67 : decode cX5_one 67 = .ok (.getfield 46, 3) := dk_180 0 46 (dk_at dksX5_one_2 19 rfl rfl)
theorem dX5_one_70 : decode cX5_one 70 = .ok (.bipush 60, 2) := dk_16 60 (dk_at dksX5_one_2 22 rfl rfl)
theorem dX5_one_72 : decode cX5_one 72 = .ok (.if_icmp .eq 23, 3) := dk_159 0 23 (dk_at dksX5_one_3 0 rfl rfl)
theorem dX5_one_75 : decode cX5_one 75 = .ok (.aload_n 0, 1) := dk_42 (dk_at dksX5_one_3 3 rfl rfl)
theorem dX5_one_76 : decode cX5_one 76 = .ok (.getfield 46, 3) := dk_180 0 46 (dk_at dksX5_one_3 4 rfl rfl)
theorem dX5_one_79 : decode cX5_one 79 = .ok (.bipush 62, 2) := dk_16 62 (dk_at dksX5_one_3 7 rfl rfl)
theorem dX5_one_81 : decode cX5_one 81 = .ok (.if_icmp .eq 14, 3) := dk_159 0 14 (dk_at dksX5_one_3 9 rfl rfl)
theorem dX5_one_84 : decode cX5_one 84 = .ok (.aload_n 0, 1) := dk_42 (dk_at dksX5_one_3 12 rfl rfl)
theorem dX5_one_85 : decode cX5_one 85 = .ok (.getfield 46, 3) := dk_180 0 46 (dk_at dksX5_one_3 13 rfl rfl)
theorem dX5_one_88 : decode cX5_one 88 = .ok (.bipush 61, 2) := dk_16 61 (dk_at dksX5_one_3 16 rfl rfl)
theorem dX5_one_90 : decode cX5_one 90 = .ok (.if_icmp .eq 5, 3) := dk_159 0 5 (dk_at dksX5_one_3 18 rfl rfl)
theorem dX5_one_93 : decode cX5_one 93 = .ok (.aload_n 1, 1) := dk_43 (dk_at dksX5_one_3 21 rfl rfl)
theorem dX5_one_94 : decode cX5_one 94 = .ok (.areturn, 1) := dk_176 (dk_at dksX5_one_3 22 rfl rfl)
theorem dX5_one_95 : decode cX5_one 95 = .ok (.aload_n 0, 1) := dk_42 (dk_at dksX5_one_3 23 rfl rfl)
theorem dX5_one_96 : decode cX5_one 96 = .ok (.getfield 46, 3) := dk_180 0 46 (dk_at dksX5_one_4 0 rfl rfl)
theorem dX5_one_99 : decode cX5_one 99 = .ok (.i2c, 1) := dk_146 (dk_at dksX5_one_4 3 rfl rfl)
theorem dX5_one_100 : decode cX5_one 100 = .ok (.istore_n 2, 1) := dk_61 (dk_at dksX5_one_4 4 rfl rfl)
theorem dX5_one_101 : decode cX5_one 101 = .ok (.aload_n 0, 1) := dk_42 (dk_at dksX5_one_4 5 rfl rfl)
theorem dX5_one_102 : decode cX5_one 102 = .ok (.invokevirtual 90, 3) := dk_182 0 90 (dk_at dksX5_one_4 6 rfl rfl)
theorem dX5_one_105 : decode cX5_one 105 = .ok (.new 221, 3) := dk_187 0 221 (dk_at dksX5_one_4 9 rfl rfl)
theorem dX5_one_108 : decode cX5_one 108 = .ok (.dup, 1) := dk_89 (dk_at dksX5_one_4 12 rfl rfl)
theorem dX5_one_109 : decode cX5_one 109 = .ok (.aload_n 1, 1) := dk_43 (dk_at dksX5_one_4 13 rfl rfl)
theorem dX5_one_110 : decode cX5_one 110 = .ok (.aload_n 0, 1) := dk_42 (dk_at dksX5_one_4 14 rfl rfl)
theorem dX5_one_111 : decode cX5_one 111 = .ok (.invokevirtual 234, 3) := dk_182 0 234 (dk_at dksX5_one_4 15 rfl rfl)
theorem dX5_one_114 : decode cX5_one 114 = .ok (.iload_n 2, 1) := dk_28 (dk_at dksX5_one_4 18 rfl rfl)
theorem dX5_one_115 : decode cX5_one 115 = .ok (.invokespecial 223, 3) := dk_183 0 223 (dk_at dksX5_one_4 19 rfl rfl)
theorem dX5_one_118 : decode cX5_one 118 = .ok (.areturn, 1) := dk_176 (dk_at dksX5_one_4 22 rfl rfl)
abbrev cX5_sum : ByteArray := prog_21_method_24_code
def yX5_sum : MethodName := ⟨RX5, "sum", "()LSealCasts$Node;"⟩
def dkwX5_sum_2 : List UInt8 := [167, 255, 214, 43, 176]
abbrev dktX5_sum_2 : List UInt8 := dkwX5_sum_2 ++ []
def dkwX5_sum_1 : List UInt8 := [180, 0, 46, 146, 61, 42, 182, 0, 90, 187, 0, 221, 89, 43, 42, 182, 0, 237, 28, 183, 0, 223, 76]
abbrev dktX5_sum_1 : List UInt8 := dkwX5_sum_1 ++ dktX5_sum_2
def dkwX5_sum_0 : List UInt8 := [42, 182, 0, 237, 76, 42, 180, 0, 46, 16, 43, 159, 0, 12, 42, 180, 0, 46, 16, 45, 160, 0, 30, 42]
abbrev dktX5_sum_0 : List UInt8 := dkwX5_sum_0 ++ dktX5_sum_1
theorem dksX5_sum_0 : cX5_sum.data.toList.drop 0 = dktX5_sum_0 := by decide +kernel
theorem dksX5_sum_1 : cX5_sum.data.toList.drop 24 = dktX5_sum_1 := dk_seg dksX5_sum_0 24 rfl rfl
theorem dksX5_sum_2 : cX5_sum.data.toList.drop 47 = dktX5_sum_2 := dk_seg dksX5_sum_1 23 rfl rfl
theorem dX5_sum_0 : decode cX5_sum 0 = .ok (.aload_n 0, 1) := dk_42 (dk_at dksX5_sum_0 0 rfl rfl)
theorem dX5_sum_1 : decode cX5_sum 1 = .ok (.invokevirtual 237, 3) := dk_182 0 237 (dk_at dksX5_sum_0 1 rfl rfl)
theorem dX5_sum_4 : decode cX5_sum 4 = .ok (.astore_n 1, 1) := dk_76 (dk_at dksX5_sum_0 4 rfl rfl)
theorem dX5_sum_5 : decode cX5_sum 5 = .ok (.aload_n 0, 1) := dk_42 (dk_at dksX5_sum_0 5 rfl rfl)
theorem dX5_sum_6 : decode cX5_sum 6 = .ok (.getfield 46, 3) := dk_180 0 46 (dk_at dksX5_sum_0 6 rfl rfl)
theorem dX5_sum_9 : decode cX5_sum 9 = .ok (.bipush 43, 2) := dk_16 43 (dk_at dksX5_sum_0 9 rfl rfl)
theorem dX5_sum_11 : decode cX5_sum 11 = .ok (.if_icmp .eq 12, 3) := dk_159 0 12 (dk_at dksX5_sum_0 11 rfl rfl)
theorem dX5_sum_14 : decode cX5_sum 14 = .ok (.aload_n 0, 1) := dk_42 (dk_at dksX5_sum_0 14 rfl rfl)
theorem dX5_sum_15 : decode cX5_sum 15 = .ok (.getfield 46, 3) := dk_180 0 46 (dk_at dksX5_sum_0 15 rfl rfl)
theorem dX5_sum_18 : decode cX5_sum 18 = .ok (.bipush 45, 2) := dk_16 45 (dk_at dksX5_sum_0 18 rfl rfl)
theorem dX5_sum_20 : decode cX5_sum 20 = .ok (.if_icmp .ne 30, 3) := dk_160 0 30 (dk_at dksX5_sum_0 20 rfl rfl)
theorem dX5_sum_23 : decode cX5_sum 23 = .ok (.aload_n 0, 1) := dk_42 (dk_at dksX5_sum_0 23 rfl rfl)
theorem dX5_sum_24 : decode cX5_sum 24 = .ok (.getfield 46, 3) := dk_180 0 46 (dk_at dksX5_sum_1 0 rfl rfl)
theorem dX5_sum_27 : decode cX5_sum 27 = .ok (.i2c, 1) := dk_146 (dk_at dksX5_sum_1 3 rfl rfl)
theorem dX5_sum_28 : decode cX5_sum 28 = .ok (.istore_n 2, 1) := dk_61 (dk_at dksX5_sum_1 4 rfl rfl)
theorem dX5_sum_29 : decode cX5_sum 29 = .ok (.aload_n 0, 1) := dk_42 (dk_at dksX5_sum_1 5 rfl rfl)
theorem dX5_sum_30 : decode cX5_sum 30 = .ok (.invokevirtual 90, 3) := dk_182 0 90 (dk_at dksX5_sum_1 6 rfl rfl)
theorem dX5_sum_33 : decode cX5_sum 33 = .ok (.new 221, 3) := dk_187 0 221 (dk_at dksX5_sum_1 9 rfl rfl)
theorem dX5_sum_36 : decode cX5_sum 36 = .ok (.dup, 1) := dk_89 (dk_at dksX5_sum_1 12 rfl rfl)
theorem dX5_sum_37 : decode cX5_sum 37 = .ok (.aload_n 1, 1) := dk_43 (dk_at dksX5_sum_1 13 rfl rfl)
theorem dX5_sum_38 : decode cX5_sum 38 = .ok (.aload_n 0, 1) := dk_42 (dk_at dksX5_sum_1 14 rfl rfl)
theorem dX5_sum_39 : decode cX5_sum 39 = .ok (.invokevirtual 237, 3) := dk_182 0 237 (dk_at dksX5_sum_1 15 rfl rfl)
theorem dX5_sum_42 : decode cX5_sum 42 = .ok (.iload_n 2, 1) := dk_28 (dk_at dksX5_sum_1 18 rfl rfl)
theorem dX5_sum_43 : decode cX5_sum 43 = .ok (.invokespecial 223, 3) := dk_183 0 223 (dk_at dksX5_sum_1 19 rfl rfl)
theorem dX5_sum_46 : decode cX5_sum 46 = .ok (.astore_n 1, 1) := dk_76 (dk_at dksX5_sum_1 22 rfl rfl)
theorem dX5_sum_47 : decode cX5_sum 47 = .ok (.goto (-42), 3) := dk_167 255 214 (dk_at dksX5_sum_2 0 rfl rfl)
theorem dX5_sum_50 : decode cX5_sum 50 = .ok (.aload_n 1, 1) := dk_43 (dk_at dksX5_sum_2 3 rfl rfl)
theorem dX5_sum_51 : decode cX5_sum 51 = .ok (.areturn, 1) := dk_176 (dk_at dksX5_sum_2 4 rfl rfl)
abbrev cX5_term : ByteArray := prog_21_method_25_code
def yX5_term : MethodName := ⟨RX5, "term", "()LSealCasts$Node;"⟩
def dkwX5_term_2 : List UInt8 := [182, 0, 240, 28, 183, 0, 223, 76, 167, 255, 205, 43, 176]
abbrev dktX5_term_2 : List UInt8 := dkwX5_term_2 ++ []
def dkwX5_term_1 : List UInt8 := [180, 0, 46, 16, 37, 160, 0, 30, 42, 180, 0, 46, 146, 61, 42, 182, 0, 90, 187, 0, 221, 89, 43, 42]
abbrev dktX5_term_1 : List UInt8 := dkwX5_term_1 ++ dktX5_term_2
def dkwX5_term_0 : List UInt8 := [42, 182, 0, 240, 76, 42, 180, 0, 46, 16, 42, 159, 0, 21, 42, 180, 0, 46, 16, 47, 159, 0, 12, 42]
abbrev dktX5_term_0 : List UInt8 := dkwX5_term_0 ++ dktX5_term_1
theorem dksX5_term_0 : cX5_term.data.toList.drop 0 = dktX5_term_0 := by decide +kernel
theorem dksX5_term_1 : cX5_term.data.toList.drop 24 = dktX5_term_1 := dk_seg dksX5_term_0 24 rfl rfl
theorem dksX5_term_2 : cX5_term.data.toList.drop 48 = dktX5_term_2 := dk_seg dksX5_term_1 24 rfl rfl
theorem dX5_term_0 : decode cX5_term 0 = .ok (.aload_n 0, 1) := dk_42 (dk_at dksX5_term_0 0 rfl rfl)
theorem dX5_term_1 : decode cX5_term 1 = .ok (.invokevirtual 240, 3) := dk_182 0 240 (dk_at dksX5_term_0 1 rfl rfl)
theorem dX5_term_4 : decode cX5_term 4 = .ok (.astore_n 1, 1) := dk_76 (dk_at dksX5_term_0 4 rfl rfl)
theorem dX5_term_5 : decode cX5_term 5 = .ok (.aload_n 0, 1) := dk_42 (dk_at dksX5_term_0 5 rfl rfl)
theorem dX5_term_6 : decode cX5_term 6 = .ok (.getfield 46, 3) := dk_180 0 46 (dk_at dksX5_term_0 6 rfl rfl)
theorem dX5_term_9 : decode cX5_term 9 = .ok (.bipush 42, 2) := dk_16 42 (dk_at dksX5_term_0 9 rfl rfl)
theorem dX5_term_11 : decode cX5_term 11 = .ok (.if_icmp .eq 21, 3) := dk_159 0 21 (dk_at dksX5_term_0 11 rfl rfl)
theorem dX5_term_14 : decode cX5_term 14 = .ok (.aload_n 0, 1) := dk_42 (dk_at dksX5_term_0 14 rfl rfl)
theorem dX5_term_15 : decode cX5_term 15 = .ok (.getfield 46, 3) := dk_180 0 46 (dk_at dksX5_term_0 15 rfl rfl)
theorem dX5_term_18 : decode cX5_term 18 = .ok (.bipush 47, 2) := dk_16 47 (dk_at dksX5_term_0 18 rfl rfl)
theorem dX5_term_20 : decode cX5_term 20 = .ok (.if_icmp .eq 12, 3) := dk_159 0 12 (dk_at dksX5_term_0 20 rfl rfl)
theorem dX5_term_23 : decode cX5_term 23 = .ok (.aload_n 0, 1) := dk_42 (dk_at dksX5_term_0 23 rfl rfl)
theorem dX5_term_24 : decode cX5_term 24 = .ok (.getfield 46, 3) := dk_180 0 46 (dk_at dksX5_term_1 0 rfl rfl)
theorem dX5_term_27 : decode cX5_term 27 = .ok (.bipush 37, 2) := dk_16 37 (dk_at dksX5_term_1 3 rfl rfl)
theorem dX5_term_29 : decode cX5_term 29 = .ok (.if_icmp .ne 30, 3) := dk_160 0 30 (dk_at dksX5_term_1 5 rfl rfl)
theorem dX5_term_32 : decode cX5_term 32 = .ok (.aload_n 0, 1) := dk_42 (dk_at dksX5_term_1 8 rfl rfl)
theorem dX5_term_33 : decode cX5_term 33 = .ok (.getfield 46, 3) := dk_180 0 46 (dk_at dksX5_term_1 9 rfl rfl)
theorem dX5_term_36 : decode cX5_term 36 = .ok (.i2c, 1) := dk_146 (dk_at dksX5_term_1 12 rfl rfl)
theorem dX5_term_37 : decode cX5_term 37 = .ok (.istore_n 2, 1) := dk_61 (dk_at dksX5_term_1 13 rfl rfl)
theorem dX5_term_38 : decode cX5_term 38 = .ok (.aload_n 0, 1) := dk_42 (dk_at dksX5_term_1 14 rfl rfl)
theorem dX5_term_39 : decode cX5_term 39 = .ok (.invokevirtual 90, 3) := dk_182 0 90 (dk_at dksX5_term_1 15 rfl rfl)
theorem dX5_term_42 : decode cX5_term 42 = .ok (.new 221, 3) := dk_187 0 221 (dk_at dksX5_term_1 18 rfl rfl)
theorem dX5_term_45 : decode cX5_term 45 = .ok (.dup, 1) := dk_89 (dk_at dksX5_term_1 21 rfl rfl)
theorem dX5_term_46 : decode cX5_term 46 = .ok (.aload_n 1, 1) := dk_43 (dk_at dksX5_term_1 22 rfl rfl)
theorem dX5_term_47 : decode cX5_term 47 = .ok (.aload_n 0, 1) := dk_42 (dk_at dksX5_term_1 23 rfl rfl)
theorem dX5_term_48 : decode cX5_term 48 = .ok (.invokevirtual 240, 3) := dk_182 0 240 (dk_at dksX5_term_2 0 rfl rfl)
theorem dX5_term_51 : decode cX5_term 51 = .ok (.iload_n 2, 1) := dk_28 (dk_at dksX5_term_2 3 rfl rfl)
theorem dX5_term_52 : decode cX5_term 52 = .ok (.invokespecial 223, 3) := dk_183 0 223 (dk_at dksX5_term_2 4 rfl rfl)
theorem dX5_term_55 : decode cX5_term 55 = .ok (.astore_n 1, 1) := dk_76 (dk_at dksX5_term_2 7 rfl rfl)
theorem dX5_term_56 : decode cX5_term 56 = .ok (.goto (-51), 3) := dk_167 255 205 (dk_at dksX5_term_2 8 rfl rfl)
theorem dX5_term_59 : decode cX5_term 59 = .ok (.aload_n 1, 1) := dk_43 (dk_at dksX5_term_2 11 rfl rfl)
theorem dX5_term_60 : decode cX5_term 60 = .ok (.areturn, 1) := dk_176 (dk_at dksX5_term_2 12 rfl rfl)
abbrev cX5_unit : ByteArray := prog_21_method_27_code
def yX5_unit : MethodName := ⟨RX5, "unit", "()LSealCasts$Node;"⟩
def dkwX5_unit_7 : List UInt8 := [183, 1, 22, 167, 0, 4, 43, 77, 42, 182, 0, 90, 44, 176]
abbrev dktX5_unit_7 : List UInt8 := dkwX5_unit_7 ++ []
def dkwX5_unit_6 : List UInt8 := [100, 181, 0, 209, 42, 182, 0, 90, 44, 176, 43, 199, 0, 17, 187, 1, 20, 89, 42, 180, 0, 69]
abbrev dktX5_unit_6 : List UInt8 := dkwX5_unit_6 ++ dktX5_unit_7
def dkwX5_unit_5 : List UInt8 := [182, 0, 215, 77, 42, 180, 0, 46, 16, 41, 159, 0, 8, 42, 182, 0, 96, 191, 42, 89, 180, 0, 209, 4]
abbrev dktX5_unit_5 : List UInt8 := dkwX5_unit_5 ++ dktX5_unit_6
def dkwX5_unit_4 : List UInt8 := [180, 0, 46, 16, 40, 160, 0, 52, 42, 89, 180, 0, 209, 4, 96, 181, 0, 209, 42, 182, 0, 90, 42]
abbrev dktX5_unit_4 : List UInt8 := dkwX5_unit_4 ++ dktX5_unit_5
def dkwX5_unit_3 : List UInt8 := [180, 0, 24, 89, 180, 1, 17, 4, 96, 181, 1, 17, 42, 89, 180, 0, 212, 4, 96, 181, 0, 212, 42]
abbrev dktX5_unit_3 : List UInt8 := dkwX5_unit_3 ++ dktX5_unit_4
def dkwX5_unit_2 : List UInt8 := [42, 180, 0, 46, 16, 40, 160, 0, 17, 42, 180, 0, 209, 16, 6, 164, 0, 8, 42, 182, 0, 96, 191, 42]
abbrev dktX5_unit_2 : List UInt8 := dkwX5_unit_2 ++ dktX5_unit_3
def dkwX5_unit_1 : List UInt8 := [198, 0, 42, 42, 180, 0, 24, 180, 1, 17, 16, 90, 159, 0, 30, 42, 180, 0, 212, 16, 30, 159, 0, 21]
abbrev dktX5_unit_1 : List UInt8 := dkwX5_unit_1 ++ dktX5_unit_2
def dkwX5_unit_0 : List UInt8 := [42, 182, 1, 14, 76, 42, 180, 0, 46, 5, 159, 0, 16, 42, 180, 0, 46, 16, 40, 159, 0, 7, 43]
abbrev dktX5_unit_0 : List UInt8 := dkwX5_unit_0 ++ dktX5_unit_1
theorem dksX5_unit_0 : cX5_unit.data.toList.drop 0 = dktX5_unit_0 := by decide +kernel
theorem dksX5_unit_1 : cX5_unit.data.toList.drop 23 = dktX5_unit_1 := dk_seg dksX5_unit_0 23 rfl rfl
theorem dksX5_unit_2 : cX5_unit.data.toList.drop 47 = dktX5_unit_2 := dk_seg dksX5_unit_1 24 rfl rfl
theorem dksX5_unit_3 : cX5_unit.data.toList.drop 71 = dktX5_unit_3 := dk_seg dksX5_unit_2 24 rfl rfl
theorem dksX5_unit_4 : cX5_unit.data.toList.drop 94 = dktX5_unit_4 := dk_seg dksX5_unit_3 23 rfl rfl
theorem dksX5_unit_5 : cX5_unit.data.toList.drop 117 = dktX5_unit_5 := dk_seg dksX5_unit_4 23 rfl rfl
theorem dksX5_unit_6 : cX5_unit.data.toList.drop 141 = dktX5_unit_6 := dk_seg dksX5_unit_5 24 rfl rfl
theorem dksX5_unit_7 : cX5_unit.data.toList.drop 163 = dktX5_unit_7 := dk_seg dksX5_unit_6 22 rfl rfl
theorem dX5_unit_0 : decode cX5_unit 0 = .ok (.aload_n 0, 1) := dk_42 (dk_at dksX5_unit_0 0 rfl rfl)
theorem dX5_unit_1 : decode cX5_unit 1 = .ok (.invokevirtual 270, 3) := dk_182 1 14 (dk_at dksX5_unit_0 1 rfl rfl)
theorem dX5_unit_4 : decode cX5_unit 4 = .ok (.astore_n 1, 1) := dk_76 (dk_at dksX5_unit_0 4 rfl rfl)
theorem dX5_unit_5 : decode cX5_unit 5 = .ok (.aload_n 0, 1) := dk_42 (dk_at dksX5_unit_0 5 rfl rfl)
theorem dX5_unit_6 : decode cX5_unit 6 = .ok (.getfield 46, 3) := dk_180 0 46 (dk_at dksX5_unit_0 6 rfl rfl)
theorem dX5_unit_9 : decode cX5_unit 9 = .ok (.iconst 2, 1) := dk_5 (dk_at dksX5_unit_0 9 rfl rfl)
theorem dX5_unit_10 : decode cX5_unit 10 = .ok (.if_icmp .eq 16, 3) := dk_159 0 16 (dk_at dksX5_unit_0 10 rfl rfl)
theorem dX5_unit_13 : decode cX5_unit 13 = .ok (.aload_n 0, 1) := dk_42 (dk_at dksX5_unit_0 13 rfl rfl)
theorem dX5_unit_14 : decode cX5_unit 14 = .ok (.getfield 46, 3) := dk_180 0 46 (dk_at dksX5_unit_0 14 rfl rfl)
theorem dX5_unit_17 : decode cX5_unit 17 = .ok (.bipush 40, 2) := dk_16 40 (dk_at dksX5_unit_0 17 rfl rfl)
theorem dX5_unit_19 : decode cX5_unit 19 = .ok (.if_icmp .eq 7, 3) := dk_159 0 7 (dk_at dksX5_unit_0 19 rfl rfl)
theorem dX5_unit_22 : decode cX5_unit 22 = .ok (.aload_n 1, 1) := dk_43 (dk_at dksX5_unit_0 22 rfl rfl)
theorem dX5_unit_23 : decode cX5_unit 23 = .ok (.ifnull 42, 3) := dk_198 0 42 (dk_at dksX5_unit_1 0 rfl rfl)
theorem dX5_unit_26 : decode cX5_unit 26 = .ok (.aload_n 0, 1) := dk_42 (dk_at dksX5_unit_1 3 rfl rfl)
theorem dX5_unit_27 : decode cX5_unit 27 = .ok (.getfield 24, 3) := dk_180 0 24 (dk_at dksX5_unit_1 4 rfl rfl)
theorem dX5_unit_30 : decode cX5_unit 30 = .ok (.getfield 273, 3) := dk_180 1 17 (dk_at dksX5_unit_1 7 rfl rfl)
theorem dX5_unit_33 : decode cX5_unit 33 = .ok (.bipush 90, 2) := dk_16 90 (dk_at dksX5_unit_1 10 rfl rfl)
theorem dX5_unit_35 : decode cX5_unit 35 = .ok (.if_icmp .eq 30, 3) := dk_159 0 30 (dk_at dksX5_unit_1 12 rfl rfl)
theorem dX5_unit_38 : decode cX5_unit 38 = .ok (.aload_n 0, 1) := dk_42 (dk_at dksX5_unit_1 15 rfl rfl)
theorem dX5_unit_39 : decode cX5_unit 39 = .ok (.getfield 212, 3) := dk_180 0 212 (dk_at dksX5_unit_1 16 rfl rfl)
theorem dX5_unit_42 : decode cX5_unit 42 = .ok (.bipush 30, 2) := dk_16 30 (dk_at dksX5_unit_1 19 rfl rfl)
theorem dX5_unit_44 : decode cX5_unit 44 = .ok (.if_icmp .eq 21, 3) := dk_159 0 21 (dk_at dksX5_unit_1 21 rfl rfl)
theorem dX5_unit_47 : decode cX5_unit 47 = .ok (.aload_n 0, 1) := dk_42 (dk_at dksX5_unit_2 0 rfl rfl)
theorem dX5_unit_48 : decode cX5_unit 48 = .ok (.getfield 46, 3) := dk_180 0 46 (dk_at dksX5_unit_2 1 rfl rfl)
theorem dX5_unit_51 : decode cX5_unit 51 = .ok (.bipush 40, 2) := dk_16 40 (dk_at dksX5_unit_2 4 rfl rfl)
theorem dX5_unit_53 : decode cX5_unit 53 = .ok (.if_icmp .ne 17, 3) := dk_160 0 17 (dk_at dksX5_unit_2 6 rfl rfl)
theorem dX5_unit_56 : decode cX5_unit 56 = .ok (.aload_n 0, 1) := dk_42 (dk_at dksX5_unit_2 9 rfl rfl)
theorem dX5_unit_57 : decode cX5_unit 57 = .ok (.getfield 209, 3) := dk_180 0 209 (dk_at dksX5_unit_2 10 rfl rfl)
theorem dX5_unit_60 : decode cX5_unit 60 = .ok (.bipush 6, 2) := dk_16 6 (dk_at dksX5_unit_2 13 rfl rfl)
theorem dX5_unit_62 : decode cX5_unit 62 = .ok (.if_icmp .le 8, 3) := dk_164 0 8 (dk_at dksX5_unit_2 15 rfl rfl)
theorem dX5_unit_65 : decode cX5_unit 65 = .ok (.aload_n 0, 1) := dk_42 (dk_at dksX5_unit_2 18 rfl rfl)
theorem dX5_unit_66 : decode cX5_unit 66 = .ok (.invokevirtual 96, 3) := dk_182 0 96 (dk_at dksX5_unit_2 19 rfl rfl)
theorem dX5_unit_69 : decode cX5_unit 69 = .ok (.athrow, 1) := dk_191 (dk_at dksX5_unit_2 22 rfl rfl)
theorem dX5_unit_70 : decode cX5_unit 70 = .ok (.aload_n 0, 1) := dk_42 (dk_at dksX5_unit_2 23 rfl rfl)
theorem dX5_unit_71 : decode cX5_unit 71 = .ok (.getfield 24, 3) := dk_180 0 24 (dk_at dksX5_unit_3 0 rfl rfl)
theorem dX5_unit_74 : decode cX5_unit 74 = .ok (.dup, 1) := dk_89 (dk_at dksX5_unit_3 3 rfl rfl)
theorem dX5_unit_75 : decode cX5_unit 75 = .ok (.getfield 273, 3) := dk_180 1 17 (dk_at dksX5_unit_3 4 rfl rfl)
theorem dX5_unit_78 : decode cX5_unit 78 = .ok (.iconst 1, 1) := dk_4 (dk_at dksX5_unit_3 7 rfl rfl)
theorem dX5_unit_79 : decode cX5_unit 79 = .ok (.iadd, 1) := dk_96 (dk_at dksX5_unit_3 8 rfl rfl)
theorem dX5_unit_80 : decode cX5_unit 80 = .ok (.putfield 273, 3) := dk_181 1 17 (dk_at dksX5_unit_3 9 rfl rfl)
theorem dX5_unit_83 : decode cX5_unit 83 = .ok (.aload_n 0, 1) := dk_42 (dk_at dksX5_unit_3 12 rfl rfl)
theorem dX5_unit_84 : decode cX5_unit 84 = .ok (.dup, 1) := dk_89 (dk_at dksX5_unit_3 13 rfl rfl)
theorem dX5_unit_85 : decode cX5_unit 85 = .ok (.getfield 212, 3) := dk_180 0 212 (dk_at dksX5_unit_3 14 rfl rfl)
theorem dX5_unit_88 : decode cX5_unit 88 = .ok (.iconst 1, 1) := dk_4 (dk_at dksX5_unit_3 17 rfl rfl)
theorem dX5_unit_89 : decode cX5_unit 89 = .ok (.iadd, 1) := dk_96 (dk_at dksX5_unit_3 18 rfl rfl)
theorem dX5_unit_90 : decode cX5_unit 90 = .ok (.putfield 212, 3) := dk_181 0 212 (dk_at dksX5_unit_3 19 rfl rfl)
theorem dX5_unit_93 : decode cX5_unit 93 = .ok (.aload_n 0, 1) := dk_42 (dk_at dksX5_unit_3 22 rfl rfl)
theorem dX5_unit_94 : decode cX5_unit 94 = .ok (.getfield 46, 3) := dk_180 0 46 (dk_at dksX5_unit_4 0 rfl rfl)
theorem dX5_unit_97 : decode cX5_unit 97 = .ok (.bipush 40, 2) := dk_16 40 (dk_at dksX5_unit_4 3 rfl rfl)
theorem dX5_unit_99 : decode cX5_unit 99 = .ok (.if_icmp .ne 52, 3) := dk_160 0 52 (dk_at dksX5_unit_4 5 rfl rfl)
theorem dX5_unit_102 : decode cX5_unit 102 = .ok (.aload_n 0, 1) := dk_42 (dk_at dksX5_unit_4 8 rfl rfl)
theorem dX5_unit_103 : decode cX5_unit 103 = .ok (.dup, 1) := dk_89 (dk_at dksX5_unit_4 9 rfl rfl)
theorem dX5_unit_104 : decode cX5_unit 104 = .ok (.getfield 209, 3) := dk_180 0 209 (dk_at dksX5_unit_4 10 rfl rfl)
theorem dX5_unit_107 : decode cX5_unit 107 = .ok (.iconst 1, 1) := dk_4 (dk_at dksX5_unit_4 13 rfl rfl)
theorem dX5_unit_108 : decode cX5_unit 108 = .ok (.iadd, 1) := dk_96 (dk_at dksX5_unit_4 14 rfl rfl)
theorem dX5_unit_109 : decode cX5_unit 109 = .ok (.putfield 209, 3) := dk_181 0 209 (dk_at dksX5_unit_4 15 rfl rfl)
theorem dX5_unit_112 : decode cX5_unit 112 = .ok (.aload_n 0, 1) := dk_42 (dk_at dksX5_unit_4 18 rfl rfl)
theorem dX5_unit_113 : decode cX5_unit 113 = .ok (.invokevirtual 90, 3) := dk_182 0 90 (dk_at dksX5_unit_4 19 rfl rfl)
theorem dX5_unit_116 : decode cX5_unit 116 = .ok (.aload_n 0, 1) := dk_42 (dk_at dksX5_unit_4 22 rfl rfl)
theorem dX5_unit_117 : decode cX5_unit 117 = .ok (.invokevirtual 215, 3) := dk_182 0 215 (dk_at dksX5_unit_5 0 rfl rfl)
theorem dX5_unit_120 : decode cX5_unit 120 = .ok (.astore_n 2, 1) := dk_77 (dk_at dksX5_unit_5 3 rfl rfl)
theorem dX5_unit_121 : decode cX5_unit 121 = .ok (.aload_n 0, 1) := dk_42 (dk_at dksX5_unit_5 4 rfl rfl)
theorem dX5_unit_122 : decode cX5_unit 122 = .ok (.getfield 46, 3) := dk_180 0 46 (dk_at dksX5_unit_5 5 rfl rfl)
theorem dX5_unit_125 : decode cX5_unit 125 = .ok (.bipush 41, 2) := dk_16 41 (dk_at dksX5_unit_5 8 rfl rfl)
theorem dX5_unit_127 : decode cX5_unit 127 = .ok (.if_icmp .eq 8, 3) := dk_159 0 8 (dk_at dksX5_unit_5 10 rfl rfl)
theorem dX5_unit_130 : decode cX5_unit 130 = .ok (.aload_n 0, 1) := dk_42 (dk_at dksX5_unit_5 13 rfl rfl)
theorem dX5_unit_131 : decode cX5_unit 131 = .ok (.invokevirtual 96, 3) := dk_182 0 96 (dk_at dksX5_unit_5 14 rfl rfl)
theorem dX5_unit_134 : decode cX5_unit 134 = .ok (.athrow, 1) := dk_191 (dk_at dksX5_unit_5 17 rfl rfl)
theorem dX5_unit_135 : decode cX5_unit 135 = .ok (.aload_n 0, 1) := dk_42 (dk_at dksX5_unit_5 18 rfl rfl)
theorem dX5_unit_136 : decode cX5_unit 136 = .ok (.dup, 1) := dk_89 (dk_at dksX5_unit_5 19 rfl rfl)
theorem dX5_unit_137 : decode cX5_unit 137 = .ok (.getfield 209, 3) := dk_180 0 209 (dk_at dksX5_unit_5 20 rfl rfl)
theorem dX5_unit_140 : decode cX5_unit 140 = .ok (.iconst 1, 1) := dk_4 (dk_at dksX5_unit_5 23 rfl rfl)
theorem dX5_unit_141 : decode cX5_unit 141 = .ok (.isub, 1) := dk_100 (dk_at dksX5_unit_6 0 rfl rfl)
theorem dX5_unit_142 : decode cX5_unit 142 = .ok (.putfield 209, 3) := dk_181 0 209 (dk_at dksX5_unit_6 1 rfl rfl)
theorem dX5_unit_145 : decode cX5_unit 145 = .ok (.aload_n 0, 1) := dk_42 (dk_at dksX5_unit_6 4 rfl rfl)
theorem dX5_unit_146 : decode cX5_unit 146 = .ok (.invokevirtual 90, 3) := dk_182 0 90 (dk_at dksX5_unit_6 5 rfl rfl)
theorem dX5_unit_149 : decode cX5_unit 149 = .ok (.aload_n 2, 1) := dk_44 (dk_at dksX5_unit_6 8 rfl rfl)
theorem dX5_unit_150 : decode cX5_unit 150 = .ok (.areturn, 1) := dk_176 (dk_at dksX5_unit_6 9 rfl rfl)
theorem dX5_unit_151 : decode cX5_unit 151 = .ok (.aload_n 1, 1) := dk_43 (dk_at dksX5_unit_6 10 rfl rfl)
theorem dX5_unit_152 : decode cX5_unit 152 = .ok (.ifnonnull 17, 3) := dk_199 0 17 (dk_at dksX5_unit_6 11 rfl rfl)
theorem dX5_unit_155 : decode cX5_unit 155 = .ok (.new 276, 3) := dk_187 1 20 (dk_at dksX5_unit_6 14 rfl rfl)
theorem dX5_unit_158 : decode cX5_unit 158 = .ok (.dup, 1) := dk_89 (dk_at dksX5_unit_6 17 rfl rfl)
theorem dX5_unit_159 : decode cX5_unit 159 = .ok (.aload_n 0, 1) := dk_42 (dk_at dksX5_unit_6 18 rfl rfl)
theorem dX5_unit_160 : decode cX5_unit 160 = .ok (.getfield 69, 3) := dk_180 0 69 (dk_at dksX5_unit_6 19 rfl rfl)
theorem dX5_unit_163 : decode cX5_unit 163 = .ok (.invokespecial 278, 3) := dk_183 1 22 (dk_at dksX5_unit_7 0 rfl rfl)
theorem dX5_unit_166 : decode cX5_unit 166 = .ok (.goto 4, 3) := dk_167 0 4 (dk_at dksX5_unit_7 3 rfl rfl)
theorem dX5_unit_169 : decode cX5_unit 169 = .ok (.aload_n 1, 1) := dk_43 (dk_at dksX5_unit_7 6 rfl rfl)
theorem dX5_unit_170 : decode cX5_unit 170 = .ok (.astore_n 2, 1) := dk_77 (dk_at dksX5_unit_7 7 rfl rfl)
theorem dX5_unit_171 : decode cX5_unit 171 = .ok (.aload_n 0, 1) := dk_42 (dk_at dksX5_unit_7 8 rfl rfl)
theorem dX5_unit_172 : decode cX5_unit 172 = .ok (.invokevirtual 90, 3) := dk_182 0 90 (dk_at dksX5_unit_7 9 rfl rfl)
theorem dX5_unit_175 : decode cX5_unit 175 = .ok (.aload_n 2, 1) := dk_44 (dk_at dksX5_unit_7 12 rfl rfl)
theorem dX5_unit_176 : decode cX5_unit 176 = .ok (.areturn, 1) := dk_176 (dk_at dksX5_unit_7 13 rfl rfl)
abbrev cX5_asked : ByteArray := prog_21_method_26_code
def yX5_asked : MethodName := ⟨RX5, "asked", "()LSealCasts$Node;"⟩
def dkwX5_asked_9 : List UInt8 := [178, 1, 8, 176, 178, 1, 11, 176, 1, 176]
abbrev dktX5_asked_9 : List UInt8 := dkwX5_asked_9 ++ []
def dkwX5_asked_8 : List UInt8 := [178, 0, 243, 176, 178, 0, 249, 176, 178, 0, 252, 176, 178, 0, 255, 176, 178, 1, 2, 176, 178, 1, 5, 176]
abbrev dktX5_asked_8 : List UInt8 := dkwX5_asked_8 ++ dktX5_asked_9
def dkwX5_asked_7 : List UInt8 := [170, 0, 0, 0, 0, 0, 0, 80, 0, 0, 0, 0, 0, 0, 0, 7, 0, 0, 0, 48, 0, 0, 0, 52, 0, 0, 0, 56, 0, 0, 0, 60, 0, 0, 0, 64, 0, 0, 0, 68, 0, 0, 0, 72, 0, 0, 0, 76]
abbrev dktX5_asked_7 : List UInt8 := dkwX5_asked_7 ++ dktX5_asked_8
def dkwX5_asked_6 : List UInt8 := [61, 167, 0, 15, 43, 18, 116, 182, 0, 80, 153, 0, 6, 16, 7, 61, 28]
abbrev dktX5_asked_6 : List UInt8 := dkwX5_asked_6 ++ dktX5_asked_7
def dkwX5_asked_5 : List UInt8 := [18, 128, 182, 0, 80, 153, 0, 35, 8, 61, 167, 0, 30, 43, 18, 130, 182, 0, 80, 153, 0, 21, 16, 6]
abbrev dktX5_asked_5 : List UInt8 := dkwX5_asked_5 ++ dktX5_asked_6
def dkwX5_asked_4 : List UInt8 := [153, 0, 63, 6, 61, 167, 0, 58, 43, 18, 126, 182, 0, 80, 153, 0, 49, 7, 61, 167, 0, 44, 43]
abbrev dktX5_asked_4 : List UInt8 := dkwX5_asked_4 ++ dktX5_asked_5
def dkwX5_asked_3 : List UInt8 := [61, 167, 0, 86, 43, 18, 122, 182, 0, 80, 153, 0, 77, 5, 61, 167, 0, 72, 43, 18, 124, 182, 0, 80]
abbrev dktX5_asked_3 : List UInt8 := dkwX5_asked_3 ++ dktX5_asked_4
def dkwX5_asked_2 : List UInt8 := [43, 18, 118, 182, 0, 80, 153, 0, 105, 3, 61, 167, 0, 100, 43, 18, 120, 182, 0, 80, 153, 0, 91, 4]
abbrev dktX5_asked_2 : List UInt8 := dkwX5_asked_2 ++ dktX5_asked_3
def dkwX5_asked_1 : List UInt8 := [171, 0, 0, 0, 0, 0, 186, 0, 0, 0, 8, 0, 1, 146, 154, 0, 0, 0, 89, 0, 47, 45, 68, 0, 0, 0, 174, 0, 48, 205, 240, 0, 0, 0, 159, 0, 50, 160, 7, 0, 0, 0, 103, 0, 51, 6, 95, 0, 0, 0, 131, 0, 51, 6, 205, 0, 0, 0, 75, 0, 56, 136, 61, 0, 0, 0, 145, 6, 119, 194, 28, 0, 0, 0, 117]
abbrev dktX5_asked_1 : List UInt8 := dkwX5_asked_1 ++ dktX5_asked_2
def dkwX5_asked_0 : List UInt8 := [42, 180, 0, 46, 4, 159, 0, 5, 1, 176, 42, 180, 0, 17, 76, 2, 61, 43, 182, 0, 100]
abbrev dktX5_asked_0 : List UInt8 := dkwX5_asked_0 ++ dktX5_asked_1
theorem dksX5_asked_0 : cX5_asked.data.toList.drop 0 = dktX5_asked_0 := by decide +kernel
theorem dksX5_asked_1 : cX5_asked.data.toList.drop 21 = dktX5_asked_1 := dk_seg dksX5_asked_0 21 rfl rfl
theorem dksX5_asked_2 : cX5_asked.data.toList.drop 96 = dktX5_asked_2 := dk_seg dksX5_asked_1 75 rfl rfl
theorem dksX5_asked_3 : cX5_asked.data.toList.drop 120 = dktX5_asked_3 := dk_seg dksX5_asked_2 24 rfl rfl
theorem dksX5_asked_4 : cX5_asked.data.toList.drop 144 = dktX5_asked_4 := dk_seg dksX5_asked_3 24 rfl rfl
theorem dksX5_asked_5 : cX5_asked.data.toList.drop 167 = dktX5_asked_5 := dk_seg dksX5_asked_4 23 rfl rfl
theorem dksX5_asked_6 : cX5_asked.data.toList.drop 191 = dktX5_asked_6 := dk_seg dksX5_asked_5 24 rfl rfl
theorem dksX5_asked_7 : cX5_asked.data.toList.drop 208 = dktX5_asked_7 := dk_seg dksX5_asked_6 17 rfl rfl
theorem dksX5_asked_8 : cX5_asked.data.toList.drop 256 = dktX5_asked_8 := dk_seg dksX5_asked_7 48 rfl rfl
theorem dksX5_asked_9 : cX5_asked.data.toList.drop 280 = dktX5_asked_9 := dk_seg dksX5_asked_8 24 rfl rfl
theorem dX5_asked_0 : decode cX5_asked 0 = .ok (.aload_n 0, 1) := dk_42 (dk_at dksX5_asked_0 0 rfl rfl)
theorem dX5_asked_1 : decode cX5_asked 1 = .ok (.getfield 46, 3) := dk_180 0 46 (dk_at dksX5_asked_0 1 rfl rfl)
theorem dX5_asked_4 : decode cX5_asked 4 = .ok (.iconst 1, 1) := dk_4 (dk_at dksX5_asked_0 4 rfl rfl)
theorem dX5_asked_5 : decode cX5_asked 5 = .ok (.if_icmp .eq 5, 3) := dk_159 0 5 (dk_at dksX5_asked_0 5 rfl rfl)
theorem dX5_asked_8 : decode cX5_asked 8 = .ok (.aconst_null, 1) := dk_1 (dk_at dksX5_asked_0 8 rfl rfl)
theorem dX5_asked_9 : decode cX5_asked 9 = .ok (.areturn, 1) := dk_176 (dk_at dksX5_asked_0 9 rfl rfl)
theorem dX5_asked_10 : decode cX5_asked 10 = .ok (.aload_n 0, 1) := dk_42 (dk_at dksX5_asked_0 10 rfl rfl)
theorem dX5_asked_11 : decode cX5_asked 11 = .ok (.getfield 17, 3) := dk_180 0 17 (dk_at dksX5_asked_0 11 rfl rfl)
theorem dX5_asked_14 : decode cX5_asked 14 = .ok (.astore_n 1, 1) := dk_76 (dk_at dksX5_asked_0 14 rfl rfl)
theorem dX5_asked_15 : decode cX5_asked 15 = .ok (.iconst (-1), 1) := dk_2 (dk_at dksX5_asked_0 15 rfl rfl)
theorem dX5_asked_16 : decode cX5_asked 16 = .ok (.istore_n 2, 1) := dk_61 (dk_at dksX5_asked_0 16 rfl rfl)
theorem dX5_asked_17 : decode cX5_asked 17 = .ok (.aload_n 1, 1) := dk_43 (dk_at dksX5_asked_0 17 rfl rfl)
theorem dX5_asked_18 : decode cX5_asked 18 = .ok (.invokevirtual 100, 3) := dk_182 0 100 (dk_at dksX5_asked_0 18 rfl rfl)
theorem dX5_asked_21 : decode cX5_asked 21 = .ok (.lookupswitch 186 #[(103066, 89), (3091780, 174), (3198448, 159), (3317767, 103), (3343967, 131), (3344077, 75), (3704893, 145), (108511772, 117)], 75) := by decide +kernel
theorem dX5_asked_96 : decode cX5_asked 96 = .ok (.aload_n 1, 1) := dk_43 (dk_at dksX5_asked_2 0 rfl rfl)
theorem dX5_asked_97 : decode cX5_asked 97 = .ok (.ldc 118, 2) := dk_18 118 (dk_at dksX5_asked_2 1 rfl rfl)
theorem dX5_asked_99 : decode cX5_asked 99 = .ok (.invokevirtual 80, 3) := dk_182 0 80 (dk_at dksX5_asked_2 3 rfl rfl)
theorem dX5_asked_102 : decode cX5_asked 102 = .ok (.ifCond .eq 105, 3) := dk_153 0 105 (dk_at dksX5_asked_2 6 rfl rfl)
theorem dX5_asked_105 : decode cX5_asked 105 = .ok (.iconst 0, 1) := dk_3 (dk_at dksX5_asked_2 9 rfl rfl)
theorem dX5_asked_106 : decode cX5_asked 106 = .ok (.istore_n 2, 1) := dk_61 (dk_at dksX5_asked_2 10 rfl rfl)
theorem dX5_asked_107 : decode cX5_asked 107 = .ok (.goto 100, 3) := dk_167 0 100 (dk_at dksX5_asked_2 11 rfl rfl)
theorem dX5_asked_110 : decode cX5_asked 110 = .ok (.aload_n 1, 1) := dk_43 (dk_at dksX5_asked_2 14 rfl rfl)
theorem dX5_asked_111 : decode cX5_asked 111 = .ok (.ldc 120, 2) := dk_18 120 (dk_at dksX5_asked_2 15 rfl rfl)
theorem dX5_asked_113 : decode cX5_asked 113 = .ok (.invokevirtual 80, 3) := dk_182 0 80 (dk_at dksX5_asked_2 17 rfl rfl)
theorem dX5_asked_116 : decode cX5_asked 116 = .ok (.ifCond .eq 91, 3) := dk_153 0 91 (dk_at dksX5_asked_2 20 rfl rfl)
theorem dX5_asked_119 : decode cX5_asked 119 = .ok (.iconst 1, 1) := dk_4 (dk_at dksX5_asked_2 23 rfl rfl)
theorem dX5_asked_120 : decode cX5_asked 120 = .ok (.istore_n 2, 1) := dk_61 (dk_at dksX5_asked_3 0 rfl rfl)
theorem dX5_asked_121 : decode cX5_asked 121 = .ok (.goto 86, 3) := dk_167 0 86 (dk_at dksX5_asked_3 1 rfl rfl)
theorem dX5_asked_124 : decode cX5_asked 124 = .ok (.aload_n 1, 1) := dk_43 (dk_at dksX5_asked_3 4 rfl rfl)
theorem dX5_asked_125 : decode cX5_asked 125 = .ok (.ldc 122, 2) := dk_18 122 (dk_at dksX5_asked_3 5 rfl rfl)
theorem dX5_asked_127 : decode cX5_asked 127 = .ok (.invokevirtual 80, 3) := dk_182 0 80 (dk_at dksX5_asked_3 7 rfl rfl)
theorem dX5_asked_130 : decode cX5_asked 130 = .ok (.ifCond .eq 77, 3) := dk_153 0 77 (dk_at dksX5_asked_3 10 rfl rfl)
theorem dX5_asked_133 : decode cX5_asked 133 = .ok (.iconst 2, 1) := dk_5 (dk_at dksX5_asked_3 13 rfl rfl)
theorem dX5_asked_134 : decode cX5_asked 134 = .ok (.istore_n 2, 1) := dk_61 (dk_at dksX5_asked_3 14 rfl rfl)
theorem dX5_asked_135 : decode cX5_asked 135 = .ok (.goto 72, 3) := dk_167 0 72 (dk_at dksX5_asked_3 15 rfl rfl)
theorem dX5_asked_138 : decode cX5_asked 138 = .ok (.aload_n 1, 1) := dk_43 (dk_at dksX5_asked_3 18 rfl rfl)
theorem dX5_asked_139 : decode cX5_asked 139 = .ok (.ldc 124, 2) := dk_18 124 (dk_at dksX5_asked_3 19 rfl rfl)
theorem dX5_asked_141 : decode cX5_asked 141 = .ok (.invokevirtual 80, 3) := dk_182 0 80 (dk_at dksX5_asked_3 21 rfl rfl)
theorem dX5_asked_144 : decode cX5_asked 144 = .ok (.ifCond .eq 63, 3) := dk_153 0 63 (dk_at dksX5_asked_4 0 rfl rfl)
theorem dX5_asked_147 : decode cX5_asked 147 = .ok (.iconst 3, 1) := dk_6 (dk_at dksX5_asked_4 3 rfl rfl)
theorem dX5_asked_148 : decode cX5_asked 148 = .ok (.istore_n 2, 1) := dk_61 (dk_at dksX5_asked_4 4 rfl rfl)
theorem dX5_asked_149 : decode cX5_asked 149 = .ok (.goto 58, 3) := dk_167 0 58 (dk_at dksX5_asked_4 5 rfl rfl)
theorem dX5_asked_152 : decode cX5_asked 152 = .ok (.aload_n 1, 1) := dk_43 (dk_at dksX5_asked_4 8 rfl rfl)
theorem dX5_asked_153 : decode cX5_asked 153 = .ok (.ldc 126, 2) := dk_18 126 (dk_at dksX5_asked_4 9 rfl rfl)
theorem dX5_asked_155 : decode cX5_asked 155 = .ok (.invokevirtual 80, 3) := dk_182 0 80 (dk_at dksX5_asked_4 11 rfl rfl)
theorem dX5_asked_158 : decode cX5_asked 158 = .ok (.ifCond .eq 49, 3) := dk_153 0 49 (dk_at dksX5_asked_4 14 rfl rfl)
theorem dX5_asked_161 : decode cX5_asked 161 = .ok (.iconst 4, 1) := dk_7 (dk_at dksX5_asked_4 17 rfl rfl)
theorem dX5_asked_162 : decode cX5_asked 162 = .ok (.istore_n 2, 1) := dk_61 (dk_at dksX5_asked_4 18 rfl rfl)
theorem dX5_asked_163 : decode cX5_asked 163 = .ok (.goto 44, 3) := dk_167 0 44 (dk_at dksX5_asked_4 19 rfl rfl)
theorem dX5_asked_166 : decode cX5_asked 166 = .ok (.aload_n 1, 1) := dk_43 (dk_at dksX5_asked_4 22 rfl rfl)
theorem dX5_asked_167 : decode cX5_asked 167 = .ok (.ldc 128, 2) := dk_18 128 (dk_at dksX5_asked_5 0 rfl rfl)
theorem dX5_asked_169 : decode cX5_asked 169 = .ok (.invokevirtual 80, 3) := dk_182 0 80 (dk_at dksX5_asked_5 2 rfl rfl)
theorem dX5_asked_172 : decode cX5_asked 172 = .ok (.ifCond .eq 35, 3) := dk_153 0 35 (dk_at dksX5_asked_5 5 rfl rfl)
theorem dX5_asked_175 : decode cX5_asked 175 = .ok (.iconst 5, 1) := dk_8 (dk_at dksX5_asked_5 8 rfl rfl)
theorem dX5_asked_176 : decode cX5_asked 176 = .ok (.istore_n 2, 1) := dk_61 (dk_at dksX5_asked_5 9 rfl rfl)
theorem dX5_asked_177 : decode cX5_asked 177 = .ok (.goto 30, 3) := dk_167 0 30 (dk_at dksX5_asked_5 10 rfl rfl)
theorem dX5_asked_180 : decode cX5_asked 180 = .ok (.aload_n 1, 1) := dk_43 (dk_at dksX5_asked_5 13 rfl rfl)
theorem dX5_asked_181 : decode cX5_asked 181 = .ok (.ldc 130, 2) := dk_18 130 (dk_at dksX5_asked_5 14 rfl rfl)
theorem dX5_asked_183 : decode cX5_asked 183 = .ok (.invokevirtual 80, 3) := dk_182 0 80 (dk_at dksX5_asked_5 16 rfl rfl)
theorem dX5_asked_186 : decode cX5_asked 186 = .ok (.ifCond .eq 21, 3) := dk_153 0 21 (dk_at dksX5_asked_5 19 rfl rfl)
theorem dX5_asked_189 : decode cX5_asked 189 = .ok (.bipush 6, 2) := dk_16 6 (dk_at dksX5_asked_5 22 rfl rfl)
theorem dX5_asked_191 : decode cX5_asked 191 = .ok (.istore_n 2, 1) := dk_61 (dk_at dksX5_asked_6 0 rfl rfl)
theorem dX5_asked_192 : decode cX5_asked 192 = .ok (.goto 15, 3) := dk_167 0 15 (dk_at dksX5_asked_6 1 rfl rfl)
theorem dX5_asked_195 : decode cX5_asked 195 = .ok (.aload_n 1, 1) := dk_43 (dk_at dksX5_asked_6 4 rfl rfl)
theorem dX5_asked_196 : decode cX5_asked 196 = .ok (.ldc 116, 2) := dk_18 116 (dk_at dksX5_asked_6 5 rfl rfl)
theorem dX5_asked_198 : decode cX5_asked 198 = .ok (.invokevirtual 80, 3) := dk_182 0 80 (dk_at dksX5_asked_6 7 rfl rfl)
theorem dX5_asked_201 : decode cX5_asked 201 = .ok (.ifCond .eq 6, 3) := dk_153 0 6 (dk_at dksX5_asked_6 10 rfl rfl)
theorem dX5_asked_204 : decode cX5_asked 204 = .ok (.bipush 7, 2) := dk_16 7 (dk_at dksX5_asked_6 13 rfl rfl)
theorem dX5_asked_206 : decode cX5_asked 206 = .ok (.istore_n 2, 1) := dk_61 (dk_at dksX5_asked_6 15 rfl rfl)
theorem dX5_asked_207 : decode cX5_asked 207 = .ok (.iload_n 2, 1) := dk_28 (dk_at dksX5_asked_6 16 rfl rfl)
theorem dX5_asked_208 : decode cX5_asked 208 = .ok (.tableswitch 80 0 7 #[48, 52, 56, 60, 64, 68, 72, 76], 48) := by decide +kernel
theorem dX5_asked_256 : decode cX5_asked 256 = .ok (.getstatic 243, 3) := dk_178 0 243 (dk_at dksX5_asked_8 0 rfl rfl)
theorem dX5_asked_259 : decode cX5_asked 259 = .ok (.areturn, 1) := dk_176 (dk_at dksX5_asked_8 3 rfl rfl)
theorem dX5_asked_260 : decode cX5_asked 260 = .ok (.getstatic 249, 3) := dk_178 0 249 (dk_at dksX5_asked_8 4 rfl rfl)
theorem dX5_asked_263 : decode cX5_asked 263 = .ok (.areturn, 1) := dk_176 (dk_at dksX5_asked_8 7 rfl rfl)
theorem dX5_asked_264 : decode cX5_asked 264 = .ok (.getstatic 252, 3) := dk_178 0 252 (dk_at dksX5_asked_8 8 rfl rfl)
theorem dX5_asked_267 : decode cX5_asked 267 = .ok (.areturn, 1) := dk_176 (dk_at dksX5_asked_8 11 rfl rfl)
theorem dX5_asked_268 : decode cX5_asked 268 = .ok (.getstatic 255, 3) := dk_178 0 255 (dk_at dksX5_asked_8 12 rfl rfl)
theorem dX5_asked_271 : decode cX5_asked 271 = .ok (.areturn, 1) := dk_176 (dk_at dksX5_asked_8 15 rfl rfl)
theorem dX5_asked_272 : decode cX5_asked 272 = .ok (.getstatic 258, 3) := dk_178 1 2 (dk_at dksX5_asked_8 16 rfl rfl)
theorem dX5_asked_275 : decode cX5_asked 275 = .ok (.areturn, 1) := dk_176 (dk_at dksX5_asked_8 19 rfl rfl)
theorem dX5_asked_276 : decode cX5_asked 276 = .ok (.getstatic 261, 3) := dk_178 1 5 (dk_at dksX5_asked_8 20 rfl rfl)
theorem dX5_asked_279 : decode cX5_asked 279 = .ok (.areturn, 1) := dk_176 (dk_at dksX5_asked_8 23 rfl rfl)
theorem dX5_asked_280 : decode cX5_asked 280 = .ok (.getstatic 264, 3) := dk_178 1 8 (dk_at dksX5_asked_9 0 rfl rfl)
theorem dX5_asked_283 : decode cX5_asked 283 = .ok (.areturn, 1) := dk_176 (dk_at dksX5_asked_9 3 rfl rfl)
theorem dX5_asked_284 : decode cX5_asked 284 = .ok (.getstatic 267, 3) := dk_178 1 11 (dk_at dksX5_asked_9 4 rfl rfl)
theorem dX5_asked_287 : decode cX5_asked 287 = .ok (.areturn, 1) := dk_176 (dk_at dksX5_asked_9 7 rfl rfl)
theorem dX5_asked_288 : decode cX5_asked 288 = .ok (.aconst_null, 1) := dk_1 (dk_at dksX5_asked_9 8 rfl rfl)
theorem dX5_asked_289 : decode cX5_asked 289 = .ok (.areturn, 1) := dk_176 (dk_at dksX5_asked_9 9 rfl rfl)
abbrev cX5_wax : ByteArray := prog_21_method_18_code
def yX5_wax : MethodName := ⟨RX5, "wax", "()V"⟩
def dkwX5_wax_1 : List UInt8 := [177]
abbrev dktX5_wax_1 : List UInt8 := dkwX5_wax_1 ++ []
def dkwX5_wax_0 : List UInt8 := [42, 182, 0, 90, 42, 4, 181, 0, 163, 42, 180, 0, 24, 42, 3, 17, 3, 231, 182, 0, 173, 181, 0, 204]
abbrev dktX5_wax_0 : List UInt8 := dkwX5_wax_0 ++ dktX5_wax_1
theorem dksX5_wax_0 : cX5_wax.data.toList.drop 0 = dktX5_wax_0 := by decide +kernel
theorem dksX5_wax_1 : cX5_wax.data.toList.drop 24 = dktX5_wax_1 := dk_seg dksX5_wax_0 24 rfl rfl
theorem dX5_wax_0 : decode cX5_wax 0 = .ok (.aload_n 0, 1) := dk_42 (dk_at dksX5_wax_0 0 rfl rfl)
theorem dX5_wax_1 : decode cX5_wax 1 = .ok (.invokevirtual 90, 3) := dk_182 0 90 (dk_at dksX5_wax_0 1 rfl rfl)
theorem dX5_wax_4 : decode cX5_wax 4 = .ok (.aload_n 0, 1) := dk_42 (dk_at dksX5_wax_0 4 rfl rfl)
theorem dX5_wax_5 : decode cX5_wax 5 = .ok (.iconst 1, 1) := dk_4 (dk_at dksX5_wax_0 5 rfl rfl)
theorem dX5_wax_6 : decode cX5_wax 6 = .ok (.putfield 163, 3) := dk_181 0 163 (dk_at dksX5_wax_0 6 rfl rfl)
theorem dX5_wax_9 : decode cX5_wax 9 = .ok (.aload_n 0, 1) := dk_42 (dk_at dksX5_wax_0 9 rfl rfl)
theorem dX5_wax_10 : decode cX5_wax 10 = .ok (.getfield 24, 3) := dk_180 0 24 (dk_at dksX5_wax_0 10 rfl rfl)
theorem dX5_wax_13 : decode cX5_wax 13 = .ok (.aload_n 0, 1) := dk_42 (dk_at dksX5_wax_0 13 rfl rfl)
theorem dX5_wax_14 : decode cX5_wax 14 = .ok (.iconst 0, 1) := dk_3 (dk_at dksX5_wax_0 14 rfl rfl)
theorem dX5_wax_15 : decode cX5_wax 15 = .ok (.sipush 999, 3) := dk_17 3 231 (dk_at dksX5_wax_0 15 rfl rfl)
theorem dX5_wax_18 : decode cX5_wax 18 = .ok (.invokevirtual 173, 3) := dk_182 0 173 (dk_at dksX5_wax_0 18 rfl rfl)
theorem dX5_wax_21 : decode cX5_wax 21 = .ok (.putfield 204, 3) := dk_181 0 204 (dk_at dksX5_wax_0 21 rfl rfl)
theorem dX5_wax_24 : decode cX5_wax 24 = .ok (.return_, 1) := dk_177 (dk_at dksX5_wax_1 0 rfl rfl)
abbrev cX5_draw : ByteArray := prog_21_method_19_code
def yX5_draw : MethodName := ⟨RX5, "draw", "()V"⟩
def dkwX5_draw_1 : List UInt8 := [177]
abbrev dktX5_draw_1 : List UInt8 := dkwX5_draw_1 ++ []
def dkwX5_draw_0 : List UInt8 := [42, 182, 0, 90, 42, 4, 181, 0, 168, 42, 180, 0, 24, 42, 3, 17, 3, 231, 182, 0, 173, 181, 0, 206]
abbrev dktX5_draw_0 : List UInt8 := dkwX5_draw_0 ++ dktX5_draw_1
theorem dksX5_draw_0 : cX5_draw.data.toList.drop 0 = dktX5_draw_0 := by decide +kernel
theorem dksX5_draw_1 : cX5_draw.data.toList.drop 24 = dktX5_draw_1 := dk_seg dksX5_draw_0 24 rfl rfl
theorem dX5_draw_0 : decode cX5_draw 0 = .ok (.aload_n 0, 1) := dk_42 (dk_at dksX5_draw_0 0 rfl rfl)
theorem dX5_draw_1 : decode cX5_draw 1 = .ok (.invokevirtual 90, 3) := dk_182 0 90 (dk_at dksX5_draw_0 1 rfl rfl)
theorem dX5_draw_4 : decode cX5_draw 4 = .ok (.aload_n 0, 1) := dk_42 (dk_at dksX5_draw_0 4 rfl rfl)
theorem dX5_draw_5 : decode cX5_draw 5 = .ok (.iconst 1, 1) := dk_4 (dk_at dksX5_draw_0 5 rfl rfl)
theorem dX5_draw_6 : decode cX5_draw 6 = .ok (.putfield 168, 3) := dk_181 0 168 (dk_at dksX5_draw_0 6 rfl rfl)
theorem dX5_draw_9 : decode cX5_draw 9 = .ok (.aload_n 0, 1) := dk_42 (dk_at dksX5_draw_0 9 rfl rfl)
theorem dX5_draw_10 : decode cX5_draw 10 = .ok (.getfield 24, 3) := dk_180 0 24 (dk_at dksX5_draw_0 10 rfl rfl)
theorem dX5_draw_13 : decode cX5_draw 13 = .ok (.aload_n 0, 1) := dk_42 (dk_at dksX5_draw_0 13 rfl rfl)
theorem dX5_draw_14 : decode cX5_draw 14 = .ok (.iconst 0, 1) := dk_3 (dk_at dksX5_draw_0 14 rfl rfl)
theorem dX5_draw_15 : decode cX5_draw 15 = .ok (.sipush 999, 3) := dk_17 3 231 (dk_at dksX5_draw_0 15 rfl rfl)
theorem dX5_draw_18 : decode cX5_draw 18 = .ok (.invokevirtual 173, 3) := dk_182 0 173 (dk_at dksX5_draw_0 18 rfl rfl)
theorem dX5_draw_21 : decode cX5_draw 21 = .ok (.putfield 206, 3) := dk_181 0 206 (dk_at dksX5_draw_0 21 rfl rfl)
theorem dX5_draw_24 : decode cX5_draw 24 = .ok (.return_, 1) := dk_177 (dk_at dksX5_draw_1 0 rfl rfl)
theorem q117 : (Jvm.Cond.initialized "SealCasts$Reader") ∈ lw_all := lw_g (lw_at lw_m1 9 rfl) rfl
theorem q228 : (Jvm.Cond.fieldLink "SealCasts$Reader" (152 : Nat) "SealCasts$Book" "hands" "Ljava/util/ArrayList;") ∈ lw_all := lw_g (lw_at lw_m1 120 rfl) rfl
theorem q232 : (Jvm.Cond.fieldLink "SealCasts$Reader" (176 : Nat) "SealCasts$Book" "width" "I") ∈ lw_all := lw_g (lw_at lw_m1 124 rfl) rfl
theorem q234 : (Jvm.Cond.fieldLink "SealCasts$Reader" (179 : Nat) "SealCasts$Book" "first" "I") ∈ lw_all := lw_g (lw_at lw_m1 126 rfl) rfl
theorem q237 : (Jvm.Cond.fieldLink "SealCasts$Reader" (204 : Nat) "SealCasts$Book" "wax" "I") ∈ lw_all := lw_g (lw_at lw_m1 129 rfl) rfl
theorem q239 : (Jvm.Cond.fieldLink "SealCasts$Reader" (206 : Nat) "SealCasts$Book" "seed" "I") ∈ lw_all := lw_g (lw_at lw_m1 131 rfl) rfl
theorem q240 : (Jvm.Cond.fieldLink "SealCasts$Reader" (273 : Nat) "SealCasts$Book" "units" "I") ∈ lw_all := lw_g (lw_at lw_m1 132 rfl) rfl
theorem q328 : (Jvm.Cond.fieldLinkNest "SealCasts$Reader" (35 : Nat) "SealCasts" "tape" "[B" "SealCasts") ∈ lw_tbl := lw_at lw_m1 220 rfl
theorem q329 : (Jvm.Cond.fieldLinkNest "SealCasts$Reader" (32 : Nat) "SealCasts" "taped" "I" "SealCasts") ∈ lw_tbl := lw_at lw_m1 221 rfl
theorem q440 : (Jvm.Cond.instantiable "SealCasts$Reader" (13 : Nat)) ∈ lw_all := lw_g (lw_at lw_m2 92 rfl) rfl
theorem q442 : (Jvm.Cond.instanceMethod ({ cls := "SealCasts$Reader", name := "<init>", desc := "(LSealCasts;)V" } : Jvm.MethodName)) ∈ lw_all := lw_g (lw_at lw_m2 94 rfl) rfl
theorem q443 : (Jvm.Cond.code ({ cls := "SealCasts$Reader", name := "<init>", desc := "(LSealCasts;)V" } : Jvm.MethodName) prog_21_method_1_code (2 : Nat) (Option.none : Option Jvm.ClassFile.FieldType)) ∈ lw_all := lw_g (lw_at lw_m2 95 rfl) rfl
theorem q444 : (Jvm.Cond.methodLink "SealCasts$Reader" (9 : Nat) ({ cls := "java/lang/Object", name := "<init>", desc := "()V" } : Jvm.MethodName)) ∈ lw_all := lw_g (lw_at lw_m2 96 rfl) rfl
theorem q445 : (Jvm.Cond.stringRef "SealCasts$Reader" (15 : Nat) "") ∈ lw_tbl := lw_at lw_m2 97 rfl
theorem q446 : (Jvm.Cond.classLink "SealCasts$Reader" (21 : Nat) "SealCasts$Book") ∈ lw_all := lw_g (lw_at lw_m2 98 rfl) rfl
theorem q447 : (Jvm.Cond.methodLinkNest "SealCasts$Reader" (23 : Nat) ({ cls := "SealCasts$Book", name := "<init>", desc := "()V" } : Jvm.MethodName) "SealCasts") ∈ lw_tbl := lw_at lw_m2 99 rfl
theorem q448 : (Jvm.Cond.fieldLink "SealCasts$Reader" (28 : Nat) "SealCasts$Reader" "at" "I") ∈ lw_all := lw_g (lw_at lw_m2 100 rfl) rfl
theorem q449 : (Jvm.Cond.fieldLink "SealCasts$Reader" (46 : Nat) "SealCasts$Reader" "sort" "I") ∈ lw_all := lw_g (lw_at lw_m2 101 rfl) rfl
theorem q450 : (Jvm.Cond.fieldLink "SealCasts$Reader" (43 : Nat) "SealCasts$Reader" "place" "I") ∈ lw_all := lw_g (lw_at lw_m2 102 rfl) rfl
theorem q451 : (Jvm.Cond.fieldLink "SealCasts$Reader" (69 : Nat) "SealCasts$Reader" "number" "I") ∈ lw_all := lw_g (lw_at lw_m2 103 rfl) rfl
theorem q452 : (Jvm.Cond.fieldLink "SealCasts$Reader" (209 : Nat) "SealCasts$Reader" "deep" "I") ∈ lw_all := lw_g (lw_at lw_m2 104 rfl) rfl
theorem q453 : (Jvm.Cond.fieldLink "SealCasts$Reader" (212 : Nat) "SealCasts$Reader" "own" "I") ∈ lw_all := lw_g (lw_at lw_m2 105 rfl) rfl
theorem q454 : (Jvm.Cond.fieldLink "SealCasts$Reader" (141 : Nat) "SealCasts$Reader" "hasLine" "Z") ∈ lw_all := lw_g (lw_at lw_m2 106 rfl) rfl
theorem q455 : (Jvm.Cond.fieldLink "SealCasts$Reader" (147 : Nat) "SealCasts$Reader" "hasFirst" "Z") ∈ lw_all := lw_g (lw_at lw_m2 107 rfl) rfl
theorem q456 : (Jvm.Cond.fieldLink "SealCasts$Reader" (163 : Nat) "SealCasts$Reader" "hasWax" "Z") ∈ lw_all := lw_g (lw_at lw_m2 108 rfl) rfl
theorem q457 : (Jvm.Cond.fieldLink "SealCasts$Reader" (168 : Nat) "SealCasts$Reader" "hasDraw" "Z") ∈ lw_all := lw_g (lw_at lw_m2 109 rfl) rfl
theorem q458 : (Jvm.Cond.fieldLink "SealCasts$Reader" (17 : Nat) "SealCasts$Reader" "word" "Ljava/lang/String;") ∈ lw_all := lw_g (lw_at lw_m2 110 rfl) rfl
theorem q459 : (Jvm.Cond.fieldLink "SealCasts$Reader" (24 : Nat) "SealCasts$Reader" "made" "LSealCasts$Book;") ∈ lw_all := lw_g (lw_at lw_m2 111 rfl) rfl
theorem q460 : (Jvm.Cond.fieldLink "SealCasts$Reader" (3 : Nat) "SealCasts$Reader" "this$0" "LSealCasts;") ∈ lw_all := lw_g (lw_at lw_m2 112 rfl) rfl
theorem q461 : (Jvm.Cond.lays "SealCasts$Reader" "SealCasts$Reader" "at" "I") ∈ lw_all := lw_g (lw_at lw_m2 113 rfl) rfl
theorem q462 : (Jvm.Cond.soleField "SealCasts$Reader" "at") ∈ lw_all := lw_g (lw_at lw_m2 114 rfl) rfl
theorem q463 : (Jvm.Cond.lays "SealCasts$Reader" "SealCasts$Reader" "sort" "I") ∈ lw_all := lw_g (lw_at lw_m2 115 rfl) rfl
theorem q464 : (Jvm.Cond.soleField "SealCasts$Reader" "sort") ∈ lw_all := lw_g (lw_at lw_m2 116 rfl) rfl
theorem q465 : (Jvm.Cond.lays "SealCasts$Reader" "SealCasts$Reader" "place" "I") ∈ lw_all := lw_g (lw_at lw_m2 117 rfl) rfl
theorem q466 : (Jvm.Cond.soleField "SealCasts$Reader" "place") ∈ lw_all := lw_g (lw_at lw_m2 118 rfl) rfl
theorem q467 : (Jvm.Cond.lays "SealCasts$Reader" "SealCasts$Reader" "number" "I") ∈ lw_all := lw_g (lw_at lw_m2 119 rfl) rfl
theorem q468 : (Jvm.Cond.soleField "SealCasts$Reader" "number") ∈ lw_all := lw_g (lw_at lw_m2 120 rfl) rfl
theorem q469 : (Jvm.Cond.lays "SealCasts$Reader" "SealCasts$Reader" "deep" "I") ∈ lw_all := lw_g (lw_at lw_m2 121 rfl) rfl
theorem q470 : (Jvm.Cond.soleField "SealCasts$Reader" "deep") ∈ lw_all := lw_g (lw_at lw_m2 122 rfl) rfl
theorem q471 : (Jvm.Cond.lays "SealCasts$Reader" "SealCasts$Reader" "own" "I") ∈ lw_all := lw_g (lw_at lw_m2 123 rfl) rfl
theorem q472 : (Jvm.Cond.soleField "SealCasts$Reader" "own") ∈ lw_all := lw_g (lw_at lw_m2 124 rfl) rfl
theorem q473 : (Jvm.Cond.lays "SealCasts$Reader" "SealCasts$Reader" "hasLine" "Z") ∈ lw_all := lw_g (lw_at lw_m2 125 rfl) rfl
theorem q474 : (Jvm.Cond.soleField "SealCasts$Reader" "hasLine") ∈ lw_all := lw_g (lw_at lw_m2 126 rfl) rfl
theorem q475 : (Jvm.Cond.lays "SealCasts$Reader" "SealCasts$Reader" "hasFirst" "Z") ∈ lw_all := lw_g (lw_at lw_m2 127 rfl) rfl
theorem q476 : (Jvm.Cond.soleField "SealCasts$Reader" "hasFirst") ∈ lw_all := lw_g (lw_at lw_m2 128 rfl) rfl
theorem q477 : (Jvm.Cond.lays "SealCasts$Reader" "SealCasts$Reader" "hasWax" "Z") ∈ lw_all := lw_g (lw_at lw_m2 129 rfl) rfl
theorem q478 : (Jvm.Cond.soleField "SealCasts$Reader" "hasWax") ∈ lw_all := lw_g (lw_at lw_m2 130 rfl) rfl
theorem q479 : (Jvm.Cond.lays "SealCasts$Reader" "SealCasts$Reader" "hasDraw" "Z") ∈ lw_all := lw_g (lw_at lw_m2 131 rfl) rfl
theorem q480 : (Jvm.Cond.soleField "SealCasts$Reader" "hasDraw") ∈ lw_all := lw_g (lw_at lw_m2 132 rfl) rfl
theorem q481 : (Jvm.Cond.lays "SealCasts$Reader" "SealCasts$Reader" "word" "Ljava/lang/String;") ∈ lw_all := lw_g (lw_at lw_m2 133 rfl) rfl
theorem q482 : (Jvm.Cond.soleField "SealCasts$Reader" "word") ∈ lw_all := lw_g (lw_at lw_m2 134 rfl) rfl
theorem q483 : (Jvm.Cond.laysFinal "SealCasts$Reader" "SealCasts$Reader" "made" "LSealCasts$Book;") ∈ lw_all := lw_g (lw_at lw_m2 135 rfl) rfl
theorem q484 : (Jvm.Cond.soleField "SealCasts$Reader" "made") ∈ lw_all := lw_g (lw_at lw_m2 136 rfl) rfl
theorem q485 : (Jvm.Cond.laysFinal "SealCasts$Reader" "SealCasts$Reader" "this$0" "LSealCasts;") ∈ lw_all := lw_g (lw_at lw_m2 137 rfl) rfl
theorem q486 : (Jvm.Cond.soleField "SealCasts$Reader" "this$0") ∈ lw_all := lw_g (lw_at lw_m2 138 rfl) rfl
theorem q487 : (Jvm.Cond.superclass "SealCasts$Reader" "java/lang/Object") ∈ lw_all := lw_g (lw_at lw_m2 139 rfl) rfl
theorem q489 : (Jvm.Cond.instanceMethod ({ cls := "SealCasts$Reader", name := "text", desc := "()LSealCasts$Book;" } : Jvm.MethodName)) ∈ lw_all := lw_g (lw_at lw_m2 141 rfl) rfl
theorem q490 : (Jvm.Cond.selects "SealCasts$Reader" ({ cls := "SealCasts$Reader", name := "text", desc := "()LSealCasts$Book;" } : Jvm.MethodName) ({ cls := "SealCasts$Reader", name := "text", desc := "()LSealCasts$Book;" } : Jvm.MethodName)) ∈ lw_all := lw_g (lw_at lw_m2 142 rfl) rfl
theorem q491 : (Jvm.Cond.code ({ cls := "SealCasts$Reader", name := "text", desc := "()LSealCasts$Book;" } : Jvm.MethodName) prog_21_method_13_code (1 : Nat) (Option.some (Jvm.ClassFile.FieldType.object "SealCasts$Book"))) ∈ lw_all := lw_g (lw_at lw_m2 143 rfl) rfl
theorem q492 : (Jvm.Cond.methodLink "SealCasts$Reader" (90 : Nat) ({ cls := "SealCasts$Reader", name := "go", desc := "()V" } : Jvm.MethodName)) ∈ lw_all := lw_g (lw_at lw_m2 144 rfl) rfl
theorem q493 : (Jvm.Cond.privateMethod ({ cls := "SealCasts$Reader", name := "go", desc := "()V" } : Jvm.MethodName)) ∈ lw_tbl := lw_at lw_m2 145 rfl
theorem q494 : (Jvm.Cond.instanceMethod ({ cls := "SealCasts$Reader", name := "go", desc := "()V" } : Jvm.MethodName)) ∈ lw_all := lw_g (lw_at lw_m2 146 rfl) rfl
theorem q495 : (Jvm.Cond.code ({ cls := "SealCasts$Reader", name := "go", desc := "()V" } : Jvm.MethodName) prog_21_method_6_code (4 : Nat) (Option.none : Option Jvm.ClassFile.FieldType)) ∈ lw_all := lw_g (lw_at lw_m2 147 rfl) rfl
theorem q496 : (Jvm.Cond.methodLink "SealCasts$Reader" (39 : Nat) ({ cls := "SealCasts$Reader", name := "here", desc := "(I)I" } : Jvm.MethodName)) ∈ lw_all := lw_g (lw_at lw_m2 148 rfl) rfl
theorem q497 : (Jvm.Cond.privateMethod ({ cls := "SealCasts$Reader", name := "here", desc := "(I)I" } : Jvm.MethodName)) ∈ lw_tbl := lw_at lw_m2 149 rfl
theorem q498 : (Jvm.Cond.instanceMethod ({ cls := "SealCasts$Reader", name := "here", desc := "(I)I" } : Jvm.MethodName)) ∈ lw_all := lw_g (lw_at lw_m2 150 rfl) rfl
theorem q499 : (Jvm.Cond.code ({ cls := "SealCasts$Reader", name := "here", desc := "(I)I" } : Jvm.MethodName) prog_21_method_2_code (2 : Nat) (Option.some Jvm.ClassFile.FieldType.int)) ∈ lw_all := lw_g (lw_at lw_m2 151 rfl) rfl
theorem q500 : (Jvm.Cond.methodLink "SealCasts$Reader" (49 : Nat) ({ cls := "SealCasts$Reader", name := "isLetter", desc := "(I)Z" } : Jvm.MethodName)) ∈ lw_all := lw_g (lw_at lw_m2 152 rfl) rfl
theorem q501 : (Jvm.Cond.privateMethod ({ cls := "SealCasts$Reader", name := "isLetter", desc := "(I)Z" } : Jvm.MethodName)) ∈ lw_tbl := lw_at lw_m2 153 rfl
theorem q502 : (Jvm.Cond.instanceMethod ({ cls := "SealCasts$Reader", name := "isLetter", desc := "(I)Z" } : Jvm.MethodName)) ∈ lw_all := lw_g (lw_at lw_m2 154 rfl) rfl
theorem q503 : (Jvm.Cond.code ({ cls := "SealCasts$Reader", name := "isLetter", desc := "(I)Z" } : Jvm.MethodName) prog_21_method_3_code (2 : Nat) (Option.some Jvm.ClassFile.FieldType.boolean)) ∈ lw_all := lw_g (lw_at lw_m2 155 rfl) rfl
theorem q504 : (Jvm.Cond.classLink "SealCasts$Reader" (53 : Nat) "java/lang/StringBuilder") ∈ lw_all := lw_g (lw_at lw_m2 156 rfl) rfl
theorem q506 : (Jvm.Cond.methodLink "SealCasts$Reader" (55 : Nat) ({ cls := "java/lang/StringBuilder", name := "<init>", desc := "(I)V" } : Jvm.MethodName)) ∈ lw_all := lw_g (lw_at lw_m2 158 rfl) rfl
theorem q535 : (Jvm.Cond.methodLink "SealCasts$Reader" (58 : Nat) ({ cls := "java/lang/StringBuilder", name := "append", desc := "(C)Ljava/lang/StringBuilder;" } : Jvm.MethodName)) ∈ lw_all := lw_g (lw_at lw_m2 187 rfl) rfl
theorem q630 : (Jvm.Cond.methodLink "SealCasts$Reader" (62 : Nat) ({ cls := "java/lang/StringBuilder", name := "toString", desc := "()Ljava/lang/String;" } : Jvm.MethodName)) ∈ lw_all := lw_g (lw_at lw_m3 42 rfl) rfl
theorem q693 : (Jvm.Cond.methodLink "SealCasts$Reader" (66 : Nat) ({ cls := "SealCasts$Reader", name := "isDigit", desc := "(I)Z" } : Jvm.MethodName)) ∈ lw_all := lw_g (lw_at lw_m3 105 rfl) rfl
theorem q694 : (Jvm.Cond.privateMethod ({ cls := "SealCasts$Reader", name := "isDigit", desc := "(I)Z" } : Jvm.MethodName)) ∈ lw_tbl := lw_at lw_m3 106 rfl
theorem q695 : (Jvm.Cond.instanceMethod ({ cls := "SealCasts$Reader", name := "isDigit", desc := "(I)Z" } : Jvm.MethodName)) ∈ lw_all := lw_g (lw_at lw_m3 107 rfl) rfl
theorem q696 : (Jvm.Cond.code ({ cls := "SealCasts$Reader", name := "isDigit", desc := "(I)Z" } : Jvm.MethodName) prog_21_method_4_code (2 : Nat) (Option.some Jvm.ClassFile.FieldType.boolean)) ∈ lw_all := lw_g (lw_at lw_m3 108 rfl) rfl
theorem q697 : (Jvm.Cond.methodLink "SealCasts$Reader" (72 : Nat) ({ cls := "SealCasts$Reader", name := "isSign", desc := "(I)Z" } : Jvm.MethodName)) ∈ lw_all := lw_g (lw_at lw_m3 109 rfl) rfl
theorem q698 : (Jvm.Cond.static ({ cls := "SealCasts$Reader", name := "isSign", desc := "(I)Z" } : Jvm.MethodName)) ∈ lw_all := lw_g (lw_at lw_m3 110 rfl) rfl
theorem q699 : (Jvm.Cond.code ({ cls := "SealCasts$Reader", name := "isSign", desc := "(I)Z" } : Jvm.MethodName) prog_21_method_5_code (1 : Nat) (Option.some Jvm.ClassFile.FieldType.boolean)) ∈ lw_all := lw_g (lw_at lw_m3 111 rfl) rfl
theorem q700 : (Jvm.Cond.methodLink "SealCasts$Reader" (138 : Nat) ({ cls := "SealCasts$Reader", name := "line", desc := "()V" } : Jvm.MethodName)) ∈ lw_all := lw_g (lw_at lw_m3 112 rfl) rfl
theorem q701 : (Jvm.Cond.privateMethod ({ cls := "SealCasts$Reader", name := "line", desc := "()V" } : Jvm.MethodName)) ∈ lw_tbl := lw_at lw_m3 113 rfl
theorem q702 : (Jvm.Cond.instanceMethod ({ cls := "SealCasts$Reader", name := "line", desc := "()V" } : Jvm.MethodName)) ∈ lw_all := lw_g (lw_at lw_m3 114 rfl) rfl
theorem q703 : (Jvm.Cond.code ({ cls := "SealCasts$Reader", name := "line", desc := "()V" } : Jvm.MethodName) prog_21_method_14_code (1 : Nat) (Option.none : Option Jvm.ClassFile.FieldType)) ∈ lw_all := lw_g (lw_at lw_m3 115 rfl) rfl
theorem q704 : (Jvm.Cond.stringRef "SealCasts$Reader" (104 : Nat) "marks") ∈ lw_tbl := lw_at lw_m3 116 rfl
theorem q705 : (Jvm.Cond.methodLink "SealCasts$Reader" (86 : Nat) ({ cls := "SealCasts$Reader", name := "is", desc := "(Ljava/lang/String;)Z" } : Jvm.MethodName)) ∈ lw_all := lw_g (lw_at lw_m3 117 rfl) rfl
theorem q706 : (Jvm.Cond.privateMethod ({ cls := "SealCasts$Reader", name := "is", desc := "(Ljava/lang/String;)Z" } : Jvm.MethodName)) ∈ lw_tbl := lw_at lw_m3 118 rfl
theorem q707 : (Jvm.Cond.instanceMethod ({ cls := "SealCasts$Reader", name := "is", desc := "(Ljava/lang/String;)Z" } : Jvm.MethodName)) ∈ lw_all := lw_g (lw_at lw_m3 119 rfl) rfl
theorem q708 : (Jvm.Cond.code ({ cls := "SealCasts$Reader", name := "is", desc := "(Ljava/lang/String;)Z" } : Jvm.MethodName) prog_21_method_8_code (2 : Nat) (Option.some Jvm.ClassFile.FieldType.boolean)) ∈ lw_all := lw_g (lw_at lw_m3 120 rfl) rfl
theorem q709 : (Jvm.Cond.methodLink "SealCasts$Reader" (80 : Nat) ({ cls := "java/lang/String", name := "equals", desc := "(Ljava/lang/Object;)Z" } : Jvm.MethodName)) ∈ lw_all := lw_g (lw_at lw_m3 121 rfl) rfl
theorem q717 : (Jvm.Cond.methodLink "SealCasts$Reader" (145 : Nat) ({ cls := "SealCasts$Reader", name := "marks", desc := "()V" } : Jvm.MethodName)) ∈ lw_all := lw_g (lw_at lw_m3 129 rfl) rfl
theorem q718 : (Jvm.Cond.privateMethod ({ cls := "SealCasts$Reader", name := "marks", desc := "()V" } : Jvm.MethodName)) ∈ lw_tbl := lw_at lw_m3 130 rfl
theorem q719 : (Jvm.Cond.instanceMethod ({ cls := "SealCasts$Reader", name := "marks", desc := "()V" } : Jvm.MethodName)) ∈ lw_all := lw_g (lw_at lw_m3 131 rfl) rfl
theorem q720 : (Jvm.Cond.code ({ cls := "SealCasts$Reader", name := "marks", desc := "()V" } : Jvm.MethodName) prog_21_method_15_code (1 : Nat) (Option.none : Option Jvm.ClassFile.FieldType)) ∈ lw_all := lw_g (lw_at lw_m3 132 rfl) rfl
theorem q721 : (Jvm.Cond.methodLink "SealCasts$Reader" (173 : Nat) ({ cls := "SealCasts$Reader", name := "number", desc := "(II)I" } : Jvm.MethodName)) ∈ lw_all := lw_g (lw_at lw_m3 133 rfl) rfl
theorem q722 : (Jvm.Cond.privateMethod ({ cls := "SealCasts$Reader", name := "number", desc := "(II)I" } : Jvm.MethodName)) ∈ lw_tbl := lw_at lw_m3 134 rfl
theorem q723 : (Jvm.Cond.instanceMethod ({ cls := "SealCasts$Reader", name := "number", desc := "(II)I" } : Jvm.MethodName)) ∈ lw_all := lw_g (lw_at lw_m3 135 rfl) rfl
theorem q724 : (Jvm.Cond.code ({ cls := "SealCasts$Reader", name := "number", desc := "(II)I" } : Jvm.MethodName) prog_21_method_11_code (4 : Nat) (Option.some Jvm.ClassFile.FieldType.int)) ∈ lw_all := lw_g (lw_at lw_m3 136 rfl) rfl
theorem q725 : (Jvm.Cond.methodLink "SealCasts$Reader" (96 : Nat) ({ cls := "SealCasts$Reader", name := "wrong", desc := "()LSealCasts$Wrong;" } : Jvm.MethodName)) ∈ lw_all := lw_g (lw_at lw_m3 137 rfl) rfl
theorem q726 : (Jvm.Cond.privateMethod ({ cls := "SealCasts$Reader", name := "wrong", desc := "()LSealCasts$Wrong;" } : Jvm.MethodName)) ∈ lw_tbl := lw_at lw_m3 138 rfl
theorem q727 : (Jvm.Cond.instanceMethod ({ cls := "SealCasts$Reader", name := "wrong", desc := "()LSealCasts$Wrong;" } : Jvm.MethodName)) ∈ lw_all := lw_g (lw_at lw_m3 139 rfl) rfl
theorem q728 : (Jvm.Cond.code ({ cls := "SealCasts$Reader", name := "wrong", desc := "()LSealCasts$Wrong;" } : Jvm.MethodName) prog_21_method_7_code (1 : Nat) (Option.some (Jvm.ClassFile.FieldType.object "SealCasts$Wrong"))) ∈ lw_all := lw_g (lw_at lw_m3 140 rfl) rfl
theorem q729 : (Jvm.Cond.classLink "SealCasts$Reader" (75 : Nat) "SealCasts$Wrong") ∈ lw_all := lw_g (lw_at lw_m3 141 rfl) rfl
theorem q766 : (Jvm.Cond.methodLink "SealCasts$Reader" (77 : Nat) ({ cls := "SealCasts$Wrong", name := "<init>", desc := "(II)V" } : Jvm.MethodName)) ∈ lw_all := lw_g (lw_at lw_m3 178 rfl) rfl
theorem q796 : (Jvm.Cond.stringRef "SealCasts$Reader" (106 : Nat) "first") ∈ lw_tbl := lw_at lw_m3 208 rfl
theorem q797 : (Jvm.Cond.methodLink "SealCasts$Reader" (150 : Nat) ({ cls := "SealCasts$Reader", name := "first", desc := "()V" } : Jvm.MethodName)) ∈ lw_all := lw_g (lw_at lw_m3 209 rfl) rfl
theorem q798 : (Jvm.Cond.privateMethod ({ cls := "SealCasts$Reader", name := "first", desc := "()V" } : Jvm.MethodName)) ∈ lw_tbl := lw_at lw_m3 210 rfl
theorem q799 : (Jvm.Cond.instanceMethod ({ cls := "SealCasts$Reader", name := "first", desc := "()V" } : Jvm.MethodName)) ∈ lw_all := lw_g (lw_at lw_m3 211 rfl) rfl
theorem q800 : (Jvm.Cond.code ({ cls := "SealCasts$Reader", name := "first", desc := "()V" } : Jvm.MethodName) prog_21_method_16_code (1 : Nat) (Option.none : Option Jvm.ClassFile.FieldType)) ∈ lw_all := lw_g (lw_at lw_m3 212 rfl) rfl
theorem q801 : (Jvm.Cond.stringRef "SealCasts$Reader" (108 : Nat) "hand") ∈ lw_tbl := lw_at lw_m3 213 rfl
theorem q802 : (Jvm.Cond.methodLink "SealCasts$Reader" (156 : Nat) ({ cls := "java/util/ArrayList", name := "size", desc := "()I" } : Jvm.MethodName)) ∈ lw_all := lw_g (lw_at lw_m3 214 rfl) rfl
theorem q806 : (Jvm.Cond.methodLink "SealCasts$Reader" (161 : Nat) ({ cls := "SealCasts$Reader", name := "hand", desc := "()V" } : Jvm.MethodName)) ∈ lw_all := lw_g (lw_at lw_m3 218 rfl) rfl
theorem q807 : (Jvm.Cond.privateMethod ({ cls := "SealCasts$Reader", name := "hand", desc := "()V" } : Jvm.MethodName)) ∈ lw_tbl := lw_at lw_m3 219 rfl
theorem q808 : (Jvm.Cond.instanceMethod ({ cls := "SealCasts$Reader", name := "hand", desc := "()V" } : Jvm.MethodName)) ∈ lw_all := lw_g (lw_at lw_m3 220 rfl) rfl
theorem q809 : (Jvm.Cond.code ({ cls := "SealCasts$Reader", name := "hand", desc := "()V" } : Jvm.MethodName) prog_21_method_17_code (3 : Nat) (Option.none : Option Jvm.ClassFile.FieldType)) ∈ lw_all := lw_g (lw_at lw_m3 221 rfl) rfl
theorem q810 : (Jvm.Cond.methodLink "SealCasts$Reader" (181 : Nat) ({ cls := "SealCasts$Reader", name := "isName", desc := "()Z" } : Jvm.MethodName)) ∈ lw_all := lw_g (lw_at lw_m3 222 rfl) rfl
theorem q811 : (Jvm.Cond.privateMethod ({ cls := "SealCasts$Reader", name := "isName", desc := "()Z" } : Jvm.MethodName)) ∈ lw_tbl := lw_at lw_m3 223 rfl
theorem q812 : (Jvm.Cond.instanceMethod ({ cls := "SealCasts$Reader", name := "isName", desc := "()Z" } : Jvm.MethodName)) ∈ lw_all := lw_g (lw_at lw_m3 224 rfl) rfl
theorem q813 : (Jvm.Cond.code ({ cls := "SealCasts$Reader", name := "isName", desc := "()Z" } : Jvm.MethodName) prog_21_method_12_code (3 : Nat) (Option.some Jvm.ClassFile.FieldType.boolean)) ∈ lw_all := lw_g (lw_at lw_m3 225 rfl) rfl
theorem q814 : (Jvm.Cond.methodLink "SealCasts$Reader" (100 : Nat) ({ cls := "java/lang/String", name := "hashCode", desc := "()I" } : Jvm.MethodName)) ∈ lw_all := lw_g (lw_at lw_m3 226 rfl) rfl
theorem q867 : (Jvm.Cond.stringRef "SealCasts$Reader" (110 : Nat) "wears") ∈ lw_tbl := lw_at lw_m4 39 rfl
theorem q868 : (Jvm.Cond.stringRef "SealCasts$Reader" (112 : Nat) "fills") ∈ lw_tbl := lw_at lw_m4 40 rfl
theorem q869 : (Jvm.Cond.stringRef "SealCasts$Reader" (114 : Nat) "wax") ∈ lw_tbl := lw_at lw_m4 41 rfl
theorem q870 : (Jvm.Cond.stringRef "SealCasts$Reader" (116 : Nat) "draw") ∈ lw_tbl := lw_at lw_m4 42 rfl
theorem q871 : (Jvm.Cond.stringRef "SealCasts$Reader" (118 : Nat) "mark") ∈ lw_tbl := lw_at lw_m4 43 rfl
theorem q872 : (Jvm.Cond.stringRef "SealCasts$Reader" (120 : Nat) "has") ∈ lw_tbl := lw_at lw_m4 44 rfl
theorem q873 : (Jvm.Cond.stringRef "SealCasts$Reader" (122 : Nat) "left") ∈ lw_tbl := lw_at lw_m4 45 rfl
theorem q874 : (Jvm.Cond.stringRef "SealCasts$Reader" (124 : Nat) "right") ∈ lw_tbl := lw_at lw_m4 46 rfl
theorem q875 : (Jvm.Cond.stringRef "SealCasts$Reader" (126 : Nat) "many") ∈ lw_tbl := lw_at lw_m4 47 rfl
theorem q876 : (Jvm.Cond.stringRef "SealCasts$Reader" (128 : Nat) "year") ∈ lw_tbl := lw_at lw_m4 48 rfl
theorem q877 : (Jvm.Cond.stringRef "SealCasts$Reader" (130 : Nat) "heat") ∈ lw_tbl := lw_at lw_m4 49 rfl
theorem q878 : (Jvm.Cond.stringRef "SealCasts$Reader" (132 : Nat) "and") ∈ lw_tbl := lw_at lw_m4 50 rfl
theorem q879 : (Jvm.Cond.stringRef "SealCasts$Reader" (134 : Nat) "or") ∈ lw_tbl := lw_at lw_m4 51 rfl
theorem q880 : (Jvm.Cond.stringRef "SealCasts$Reader" (136 : Nat) "not") ∈ lw_tbl := lw_at lw_m4 52 rfl
theorem q881 : (Jvm.Cond.methodLink "SealCasts$Reader" (185 : Nat) ({ cls := "SealCasts$Book", name := "hand", desc := "(Ljava/lang/String;)I" } : Jvm.MethodName)) ∈ lw_all := lw_g (lw_at lw_m4 53 rfl) rfl
theorem q900 : (Jvm.Cond.methodLink "SealCasts$Reader" (188 : Nat) ({ cls := "SealCasts$Reader", name := "key", desc := "(Ljava/lang/String;)V" } : Jvm.MethodName)) ∈ lw_all := lw_g (lw_at lw_m4 72 rfl) rfl
theorem q901 : (Jvm.Cond.privateMethod ({ cls := "SealCasts$Reader", name := "key", desc := "(Ljava/lang/String;)V" } : Jvm.MethodName)) ∈ lw_tbl := lw_at lw_m4 73 rfl
theorem q902 : (Jvm.Cond.instanceMethod ({ cls := "SealCasts$Reader", name := "key", desc := "(Ljava/lang/String;)V" } : Jvm.MethodName)) ∈ lw_all := lw_g (lw_at lw_m4 74 rfl) rfl
theorem q903 : (Jvm.Cond.code ({ cls := "SealCasts$Reader", name := "key", desc := "(Ljava/lang/String;)V" } : Jvm.MethodName) prog_21_method_10_code (2 : Nat) (Option.none : Option Jvm.ClassFile.FieldType)) ∈ lw_all := lw_g (lw_at lw_m4 75 rfl) rfl
theorem q904 : (Jvm.Cond.methodLink "SealCasts$Reader" (93 : Nat) ({ cls := "SealCasts$Reader", name := "takes", desc := "(Ljava/lang/String;)Z" } : Jvm.MethodName)) ∈ lw_all := lw_g (lw_at lw_m4 76 rfl) rfl
theorem q905 : (Jvm.Cond.privateMethod ({ cls := "SealCasts$Reader", name := "takes", desc := "(Ljava/lang/String;)Z" } : Jvm.MethodName)) ∈ lw_tbl := lw_at lw_m4 77 rfl
theorem q906 : (Jvm.Cond.instanceMethod ({ cls := "SealCasts$Reader", name := "takes", desc := "(Ljava/lang/String;)Z" } : Jvm.MethodName)) ∈ lw_all := lw_g (lw_at lw_m4 78 rfl) rfl
theorem q907 : (Jvm.Cond.code ({ cls := "SealCasts$Reader", name := "takes", desc := "(Ljava/lang/String;)Z" } : Jvm.MethodName) prog_21_method_9_code (3 : Nat) (Option.some Jvm.ClassFile.FieldType.boolean)) ∈ lw_all := lw_g (lw_at lw_m4 79 rfl) rfl
theorem q908 : (Jvm.Cond.methodLink "SealCasts$Reader" (192 : Nat) ({ cls := "SealCasts$Reader", name := "e", desc := "()LSealCasts$Node;" } : Jvm.MethodName)) ∈ lw_all := lw_g (lw_at lw_m4 80 rfl) rfl
theorem q909 : (Jvm.Cond.privateMethod ({ cls := "SealCasts$Reader", name := "e", desc := "()LSealCasts$Node;" } : Jvm.MethodName)) ∈ lw_tbl := lw_at lw_m4 81 rfl
theorem q910 : (Jvm.Cond.instanceMethod ({ cls := "SealCasts$Reader", name := "e", desc := "()LSealCasts$Node;" } : Jvm.MethodName)) ∈ lw_all := lw_g (lw_at lw_m4 82 rfl) rfl
theorem q911 : (Jvm.Cond.code ({ cls := "SealCasts$Reader", name := "e", desc := "()LSealCasts$Node;" } : Jvm.MethodName) prog_21_method_20_code (1 : Nat) (Option.some (Jvm.ClassFile.FieldType.object "SealCasts$Node"))) ∈ lw_all := lw_g (lw_at lw_m4 83 rfl) rfl
theorem q912 : (Jvm.Cond.methodLink "SealCasts$Reader" (215 : Nat) ({ cls := "SealCasts$Reader", name := "both", desc := "()LSealCasts$Node;" } : Jvm.MethodName)) ∈ lw_all := lw_g (lw_at lw_m4 84 rfl) rfl
theorem q913 : (Jvm.Cond.privateMethod ({ cls := "SealCasts$Reader", name := "both", desc := "()LSealCasts$Node;" } : Jvm.MethodName)) ∈ lw_tbl := lw_at lw_m4 85 rfl
theorem q914 : (Jvm.Cond.instanceMethod ({ cls := "SealCasts$Reader", name := "both", desc := "()LSealCasts$Node;" } : Jvm.MethodName)) ∈ lw_all := lw_g (lw_at lw_m4 86 rfl) rfl
theorem q915 : (Jvm.Cond.code ({ cls := "SealCasts$Reader", name := "both", desc := "()LSealCasts$Node;" } : Jvm.MethodName) prog_21_method_21_code (2 : Nat) (Option.some (Jvm.ClassFile.FieldType.object "SealCasts$Node"))) ∈ lw_all := lw_g (lw_at lw_m4 87 rfl) rfl
theorem q916 : (Jvm.Cond.methodLink "SealCasts$Reader" (218 : Nat) ({ cls := "SealCasts$Reader", name := "all", desc := "()LSealCasts$Node;" } : Jvm.MethodName)) ∈ lw_all := lw_g (lw_at lw_m4 88 rfl) rfl
theorem q917 : (Jvm.Cond.privateMethod ({ cls := "SealCasts$Reader", name := "all", desc := "()LSealCasts$Node;" } : Jvm.MethodName)) ∈ lw_tbl := lw_at lw_m4 89 rfl
theorem q918 : (Jvm.Cond.instanceMethod ({ cls := "SealCasts$Reader", name := "all", desc := "()LSealCasts$Node;" } : Jvm.MethodName)) ∈ lw_all := lw_g (lw_at lw_m4 90 rfl) rfl
theorem q919 : (Jvm.Cond.code ({ cls := "SealCasts$Reader", name := "all", desc := "()LSealCasts$Node;" } : Jvm.MethodName) prog_21_method_22_code (2 : Nat) (Option.some (Jvm.ClassFile.FieldType.object "SealCasts$Node"))) ∈ lw_all := lw_g (lw_at lw_m4 91 rfl) rfl
theorem q920 : (Jvm.Cond.methodLink "SealCasts$Reader" (226 : Nat) ({ cls := "SealCasts$Reader", name := "one", desc := "()LSealCasts$Node;" } : Jvm.MethodName)) ∈ lw_all := lw_g (lw_at lw_m4 92 rfl) rfl
theorem q921 : (Jvm.Cond.privateMethod ({ cls := "SealCasts$Reader", name := "one", desc := "()LSealCasts$Node;" } : Jvm.MethodName)) ∈ lw_tbl := lw_at lw_m4 93 rfl
theorem q922 : (Jvm.Cond.instanceMethod ({ cls := "SealCasts$Reader", name := "one", desc := "()LSealCasts$Node;" } : Jvm.MethodName)) ∈ lw_all := lw_g (lw_at lw_m4 94 rfl) rfl
theorem q923 : (Jvm.Cond.code ({ cls := "SealCasts$Reader", name := "one", desc := "()LSealCasts$Node;" } : Jvm.MethodName) prog_21_method_23_code (3 : Nat) (Option.some (Jvm.ClassFile.FieldType.object "SealCasts$Node"))) ∈ lw_all := lw_g (lw_at lw_m4 95 rfl) rfl
theorem q924 : (Jvm.Cond.classLink "SealCasts$Reader" (229 : Nat) "SealCasts$Not") ∈ lw_all := lw_g (lw_at lw_m4 96 rfl) rfl
theorem q926 : (Jvm.Cond.methodLink "SealCasts$Reader" (231 : Nat) ({ cls := "SealCasts$Not", name := "<init>", desc := "(LSealCasts$Node;)V" } : Jvm.MethodName)) ∈ lw_all := lw_g (lw_at lw_m4 98 rfl) rfl
theorem q934 : (Jvm.Cond.methodLink "SealCasts$Reader" (234 : Nat) ({ cls := "SealCasts$Reader", name := "sum", desc := "()LSealCasts$Node;" } : Jvm.MethodName)) ∈ lw_all := lw_g (lw_at lw_m4 106 rfl) rfl
theorem q935 : (Jvm.Cond.privateMethod ({ cls := "SealCasts$Reader", name := "sum", desc := "()LSealCasts$Node;" } : Jvm.MethodName)) ∈ lw_tbl := lw_at lw_m4 107 rfl
theorem q936 : (Jvm.Cond.instanceMethod ({ cls := "SealCasts$Reader", name := "sum", desc := "()LSealCasts$Node;" } : Jvm.MethodName)) ∈ lw_all := lw_g (lw_at lw_m4 108 rfl) rfl
theorem q937 : (Jvm.Cond.code ({ cls := "SealCasts$Reader", name := "sum", desc := "()LSealCasts$Node;" } : Jvm.MethodName) prog_21_method_24_code (3 : Nat) (Option.some (Jvm.ClassFile.FieldType.object "SealCasts$Node"))) ∈ lw_all := lw_g (lw_at lw_m4 109 rfl) rfl
theorem q938 : (Jvm.Cond.methodLink "SealCasts$Reader" (237 : Nat) ({ cls := "SealCasts$Reader", name := "term", desc := "()LSealCasts$Node;" } : Jvm.MethodName)) ∈ lw_all := lw_g (lw_at lw_m4 110 rfl) rfl
theorem q939 : (Jvm.Cond.privateMethod ({ cls := "SealCasts$Reader", name := "term", desc := "()LSealCasts$Node;" } : Jvm.MethodName)) ∈ lw_tbl := lw_at lw_m4 111 rfl
theorem q940 : (Jvm.Cond.instanceMethod ({ cls := "SealCasts$Reader", name := "term", desc := "()LSealCasts$Node;" } : Jvm.MethodName)) ∈ lw_all := lw_g (lw_at lw_m4 112 rfl) rfl
theorem q941 : (Jvm.Cond.code ({ cls := "SealCasts$Reader", name := "term", desc := "()LSealCasts$Node;" } : Jvm.MethodName) prog_21_method_25_code (3 : Nat) (Option.some (Jvm.ClassFile.FieldType.object "SealCasts$Node"))) ∈ lw_all := lw_g (lw_at lw_m4 113 rfl) rfl
theorem q942 : (Jvm.Cond.methodLink "SealCasts$Reader" (240 : Nat) ({ cls := "SealCasts$Reader", name := "unit", desc := "()LSealCasts$Node;" } : Jvm.MethodName)) ∈ lw_all := lw_g (lw_at lw_m4 114 rfl) rfl
theorem q943 : (Jvm.Cond.privateMethod ({ cls := "SealCasts$Reader", name := "unit", desc := "()LSealCasts$Node;" } : Jvm.MethodName)) ∈ lw_tbl := lw_at lw_m4 115 rfl
theorem q944 : (Jvm.Cond.instanceMethod ({ cls := "SealCasts$Reader", name := "unit", desc := "()LSealCasts$Node;" } : Jvm.MethodName)) ∈ lw_all := lw_g (lw_at lw_m4 116 rfl) rfl
theorem q945 : (Jvm.Cond.code ({ cls := "SealCasts$Reader", name := "unit", desc := "()LSealCasts$Node;" } : Jvm.MethodName) prog_21_method_27_code (3 : Nat) (Option.some (Jvm.ClassFile.FieldType.object "SealCasts$Node"))) ∈ lw_all := lw_g (lw_at lw_m4 117 rfl) rfl
theorem q946 : (Jvm.Cond.methodLink "SealCasts$Reader" (270 : Nat) ({ cls := "SealCasts$Reader", name := "asked", desc := "()LSealCasts$Node;" } : Jvm.MethodName)) ∈ lw_all := lw_g (lw_at lw_m4 118 rfl) rfl
theorem q947 : (Jvm.Cond.privateMethod ({ cls := "SealCasts$Reader", name := "asked", desc := "()LSealCasts$Node;" } : Jvm.MethodName)) ∈ lw_tbl := lw_at lw_m4 119 rfl
theorem q948 : (Jvm.Cond.instanceMethod ({ cls := "SealCasts$Reader", name := "asked", desc := "()LSealCasts$Node;" } : Jvm.MethodName)) ∈ lw_all := lw_g (lw_at lw_m4 120 rfl) rfl
theorem q949 : (Jvm.Cond.code ({ cls := "SealCasts$Reader", name := "asked", desc := "()LSealCasts$Node;" } : Jvm.MethodName) prog_21_method_26_code (3 : Nat) (Option.some (Jvm.ClassFile.FieldType.object "SealCasts$Node"))) ∈ lw_all := lw_g (lw_at lw_m4 121 rfl) rfl
theorem q950 : (Jvm.Cond.fieldLink "SealCasts$Reader" (243 : Nat) "SealCasts$Asked" "MARK" "LSealCasts$Asked;") ∈ lw_all := lw_g (lw_at lw_m4 122 rfl) rfl
theorem q952 : (Jvm.Cond.fieldLink "SealCasts$Reader" (249 : Nat) "SealCasts$Asked" "HAS" "LSealCasts$Asked;") ∈ lw_all := lw_g (lw_at lw_m4 124 rfl) rfl
theorem q954 : (Jvm.Cond.fieldLink "SealCasts$Reader" (252 : Nat) "SealCasts$Asked" "LEFT" "LSealCasts$Asked;") ∈ lw_all := lw_g (lw_at lw_m4 126 rfl) rfl
theorem q956 : (Jvm.Cond.fieldLink "SealCasts$Reader" (255 : Nat) "SealCasts$Asked" "RIGHT" "LSealCasts$Asked;") ∈ lw_all := lw_g (lw_at lw_m4 128 rfl) rfl
theorem q958 : (Jvm.Cond.fieldLink "SealCasts$Reader" (258 : Nat) "SealCasts$Asked" "MANY" "LSealCasts$Asked;") ∈ lw_all := lw_g (lw_at lw_m4 130 rfl) rfl
theorem q960 : (Jvm.Cond.fieldLink "SealCasts$Reader" (261 : Nat) "SealCasts$Asked" "YEAR" "LSealCasts$Asked;") ∈ lw_all := lw_g (lw_at lw_m4 132 rfl) rfl
theorem q962 : (Jvm.Cond.fieldLink "SealCasts$Reader" (264 : Nat) "SealCasts$Asked" "HEAT" "LSealCasts$Asked;") ∈ lw_all := lw_g (lw_at lw_m4 134 rfl) rfl
theorem q964 : (Jvm.Cond.fieldLink "SealCasts$Reader" (267 : Nat) "SealCasts$Asked" "DRAW" "LSealCasts$Asked;") ∈ lw_all := lw_g (lw_at lw_m4 136 rfl) rfl
theorem q966 : (Jvm.Cond.classLink "SealCasts$Reader" (276 : Nat) "SealCasts$Value") ∈ lw_all := lw_g (lw_at lw_m4 138 rfl) rfl
theorem q968 : (Jvm.Cond.methodLink "SealCasts$Reader" (278 : Nat) ({ cls := "SealCasts$Value", name := "<init>", desc := "(I)V" } : Jvm.MethodName)) ∈ lw_all := lw_g (lw_at lw_m4 140 rfl) rfl
theorem q976 : (Jvm.Cond.classLink "SealCasts$Reader" (221 : Nat) "SealCasts$Pair") ∈ lw_all := lw_g (lw_at lw_m4 148 rfl) rfl
theorem q978 : (Jvm.Cond.methodLink "SealCasts$Reader" (223 : Nat) ({ cls := "SealCasts$Pair", name := "<init>", desc := "(LSealCasts$Node;LSealCasts$Node;C)V" } : Jvm.MethodName)) ∈ lw_all := lw_g (lw_at lw_m4 150 rfl) rfl
theorem q992 : (Jvm.Cond.classLink "SealCasts$Reader" (196 : Nat) "SealCasts$Hand") ∈ lw_all := lw_g (lw_at lw_m4 164 rfl) rfl
theorem q994 : (Jvm.Cond.methodLink "SealCasts$Reader" (198 : Nat) ({ cls := "SealCasts$Hand", name := "<init>", desc := "(Ljava/lang/String;LSealCasts$Node;LSealCasts$Node;)V" } : Jvm.MethodName)) ∈ lw_all := lw_g (lw_at lw_m4 166 rfl) rfl
theorem q1011 : (Jvm.Cond.methodLink "SealCasts$Reader" (201 : Nat) ({ cls := "java/util/ArrayList", name := "add", desc := "(Ljava/lang/Object;)Z" } : Jvm.MethodName)) ∈ lw_all := lw_g (lw_at lw_m4 183 rfl) rfl
theorem q1053 : (Jvm.Cond.selects "SealCasts$Reader" ({ cls := "java/lang/Object", name := "getClass", desc := "()Ljava/lang/Class;" } : Jvm.MethodName) ({ cls := "java/lang/Object", name := "getClass", desc := "()Ljava/lang/Class;" } : Jvm.MethodName)) ∈ lw_all := lw_g (lw_at lw_m4 225 rfl) rfl
theorem q1070 : (Jvm.Cond.methodLink "SealCasts$Reader" (166 : Nat) ({ cls := "SealCasts$Reader", name := "wax", desc := "()V" } : Jvm.MethodName)) ∈ lw_all := lw_g (lw_at lw_m5 2 rfl) rfl
theorem q1071 : (Jvm.Cond.privateMethod ({ cls := "SealCasts$Reader", name := "wax", desc := "()V" } : Jvm.MethodName)) ∈ lw_tbl := lw_at lw_m5 3 rfl
theorem q1072 : (Jvm.Cond.instanceMethod ({ cls := "SealCasts$Reader", name := "wax", desc := "()V" } : Jvm.MethodName)) ∈ lw_all := lw_g (lw_at lw_m5 4 rfl) rfl
theorem q1073 : (Jvm.Cond.code ({ cls := "SealCasts$Reader", name := "wax", desc := "()V" } : Jvm.MethodName) prog_21_method_18_code (1 : Nat) (Option.none : Option Jvm.ClassFile.FieldType)) ∈ lw_all := lw_g (lw_at lw_m5 5 rfl) rfl
theorem q1074 : (Jvm.Cond.methodLink "SealCasts$Reader" (171 : Nat) ({ cls := "SealCasts$Reader", name := "draw", desc := "()V" } : Jvm.MethodName)) ∈ lw_all := lw_g (lw_at lw_m5 6 rfl) rfl
theorem q1075 : (Jvm.Cond.privateMethod ({ cls := "SealCasts$Reader", name := "draw", desc := "()V" } : Jvm.MethodName)) ∈ lw_tbl := lw_at lw_m5 7 rfl
theorem q1076 : (Jvm.Cond.instanceMethod ({ cls := "SealCasts$Reader", name := "draw", desc := "()V" } : Jvm.MethodName)) ∈ lw_all := lw_g (lw_at lw_m5 8 rfl) rfl
theorem q1077 : (Jvm.Cond.code ({ cls := "SealCasts$Reader", name := "draw", desc := "()V" } : Jvm.MethodName) prog_21_method_19_code (1 : Nat) (Option.none : Option Jvm.ClassFile.FieldType)) ∈ lw_all := lw_g (lw_at lw_m5 9 rfl) rfl
theorem q2298 : (Jvm.Cond.castable "SealCasts$Reader" "java/lang/Object") ∈ lw_tbl := lw_at lw_m10 30 rfl
theorem in_X5 : ∀ w ∈ wsX50, w ∈ lw_all := lw_in wsX50 [461, 463, 465, 467, 469, 471, 473, 475, 477, 479, 481, 483, 485] (by decide +kernel) (by decide +kernel)
