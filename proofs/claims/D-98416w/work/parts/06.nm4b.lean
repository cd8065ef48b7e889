set_option maxRecDepth 100000
abbrev cX4_made : ByteArray := prog_27_method_61_code
def yX4_made : MethodName := ⟨RX4, "made", "(II)I"⟩
def dkwX4_made_3 : List UInt8 := [29, 4, 21, 4, 120, 128, 62, 132, 4, 1, 167, 255, 202, 29, 172]
abbrev dktX4_made_3 : List UInt8 := dkwX4_made_3 ++ []
def dkwX4_made_2 : List UInt8 := [182, 1, 93, 54, 5, 27, 21, 5, 126, 27, 160, 0, 21, 21, 5, 27, 100, 184, 1, 96, 28, 163, 0, 10]
abbrev dktX4_made_2 : List UInt8 := dkwX4_made_2 ++ dktX4_made_3
def dkwX4_made_1 : List UInt8 := [54, 4, 21, 4, 42, 180, 0, 77, 17, 0, 216, 46, 162, 0, 47, 42, 42, 21, 4, 182, 1, 136]
abbrev dktX4_made_1 : List UInt8 := dkwX4_made_1 ++ dktX4_made_2
def dkwX4_made_0 : List UInt8 := [42, 27, 182, 1, 102, 153, 0, 13, 28, 3, 16, 12, 184, 1, 89, 154, 0, 5, 2, 172, 3, 62, 3]
abbrev dktX4_made_0 : List UInt8 := dkwX4_made_0 ++ dktX4_made_1
theorem dksX4_made_0 : cX4_made.data.toList.drop 0 = dktX4_made_0 := by decide +kernel
theorem dksX4_made_1 : cX4_made.data.toList.drop 23 = dktX4_made_1 := dk_seg dksX4_made_0 23 rfl rfl
theorem dksX4_made_2 : cX4_made.data.toList.drop 45 = dktX4_made_2 := dk_seg dksX4_made_1 22 rfl rfl
theorem dksX4_made_3 : cX4_made.data.toList.drop 69 = dktX4_made_3 := dk_seg dksX4_made_2 24 rfl rfl
theorem dX4_made_0 : decode cX4_made 0 = .ok (.aload_n 0, 1) := dk_42 (dk_at dksX4_made_0 0 rfl rfl)
theorem dX4_made_1 : decode cX4_made 1 = .ok (.iload_n 1, 1) := dk_27 (dk_at dksX4_made_0 1 rfl rfl)
theorem dX4_made_2 : decode cX4_made 2 = .ok (.invokevirtual 358, 3) := dk_182 1 102 (dk_at dksX4_made_0 2 rfl rfl)
theorem dX4_made_5 : decode cX4_made 5 = .ok (.ifCond .eq 13, 3) := dk_153 0 13 (dk_at dksX4_made_0 5 rfl rfl)
theorem dX4_made_8 : decode cX4_made 8 = .ok (.iload_n 2, 1) := dk_28 (dk_at dksX4_made_0 8 rfl rfl)
theorem dX4_made_9 : decode cX4_made 9 = .ok (.iconst 0, 1) := dk_3 (dk_at dksX4_made_0 9 rfl rfl)
theorem dX4_made_10 : decode cX4_made 10 = .ok (.bipush 12, 2) := dk_16 12 (dk_at dksX4_made_0 10 rfl rfl)
theorem dX4_made_12 : decode cX4_made 12 = .ok (.invokestatic 345, 3) := dk_184 1 89 (dk_at dksX4_made_0 12 rfl rfl)
theorem dX4_made_15 : decode cX4_made 15 = .ok (.ifCond .ne 5, 3) := dk_154 0 5 (dk_at dksX4_made_0 15 rfl rfl)
theorem dX4_made_18 : decode cX4_made 18 = .ok (.iconst (-1), 1) := dk_2 (dk_at dksX4_made_0 18 rfl rfl)
theorem dX4_made_19 : decode cX4_made 19 = .ok (.ireturn, 1) := dk_172 (dk_at dksX4_made_0 19 rfl rfl)
theorem dX4_made_20 : decode cX4_made 20 = .ok (.iconst 0, 1) := dk_3 (dk_at dksX4_made_0 20 rfl rfl)
theorem dX4_made_21 : decode cX4_made 21 = .ok (.istore_n 3, 1) := dk_62 (dk_at dksX4_made_0 21 rfl rfl)
theorem dX4_made_22 : decode cX4_made 22 = .ok (.iconst 0, 1) := dk_3 (dk_at dksX4_made_0 22 rfl rfl)
theorem dX4_made_23 : decode cX4_made 23 = .ok (.istore 4, 2) := dk_54 4 (dk_at dksX4_made_1 0 rfl rfl)
theorem dX4_made_25 : decode cX4_made 25 = .ok (.iload 4, 2) := dk_21 4 (dk_at dksX4_made_1 2 rfl rfl)
theorem dX4_made_27 : decode cX4_made 27 = .ok (.aload_n 0, 1) := dk_42 (dk_at dksX4_made_1 4 rfl rfl)
theorem dX4_made_28 : decode cX4_made 28 = .ok (.getfield 77, 3) := dk_180 0 77 (dk_at dksX4_made_1 5 rfl rfl)
theorem dX4_made_31 : decode cX4_made 31 = .ok (.sipush 216, 3) := dk_17 0 216 (dk_at dksX4_made_1 8 rfl rfl)
theorem dX4_made_34 : decode cX4_made 34 = .ok (.iaload, 1) := dk_46 (dk_at dksX4_made_1 11 rfl rfl)
theorem dX4_made_35 : decode cX4_made 35 = .ok (.if_icmp .ge 47, 3) := dk_162 0 47 (dk_at dksX4_made_1 12 rfl rfl)
theorem dX4_made_38 : decode cX4_made 38 = .ok (.aload_n 0, 1) := dk_42 (dk_at dksX4_made_1 15 rfl rfl)
theorem dX4_made_39 : decode cX4_made 39 = .ok (.aload_n 0, 1) := dk_42 (dk_at dksX4_made_1 16 rfl rfl)
theorem dX4_made_40 : decode cX4_made 40 = .ok (.iload 4, 2) := dk_21 4 (dk_at dksX4_made_1 17 rfl rfl)
theorem dX4_made_42 : decode cX4_made 42 = .ok (.invokevirtual 392, 3) := dk_182 1 136 (dk_at dksX4_made_1 19 rfl rfl)
theorem dX4_made_45 : decode cX4_made 45 = .ok (.invokevirtual 349, 3) := dk_182 1 93 (dk_at dksX4_made_2 0 rfl rfl)
theorem dX4_made_48 : decode cX4_made 48 = .ok (.istore 5, 2) := dk_54 5 (dk_at dksX4_made_2 3 rfl rfl)
theorem dX4_made_50 : decode cX4_made 50 = .ok (.iload_n 1, 1) := dk_27 (dk_at dksX4_made_2 5 rfl rfl)
theorem dX4_made_51 : decode cX4_made 51 = .ok (.iload 5, 2) := dk_21 5 (dk_at dksX4_made_2 6 rfl rfl)
theorem dX4_made_53 : decode cX4_made 53 = .ok (.iand, 1) := dk_126 (dk_at dksX4_made_2 8 rfl rfl)
theorem dX4_made_54 : decode cX4_made 54 = .ok (.iload_n 1, 1) := dk_27 (dk_at dksX4_made_2 9 rfl rfl)
theorem dX4_made_55 : decode cX4_made 55 = .ok (.if_icmp .ne 21, 3) := dk_160 0 21 (dk_at dksX4_made_2 10 rfl rfl)
theorem dX4_made_58 : decode cX4_made 58 = .ok (.iload 5, 2) := dk_21 5 (dk_at dksX4_made_2 13 rfl rfl)
theorem dX4_made_60 : decode cX4_made 60 = .ok (.iload_n 1, 1) := dk_27 (dk_at dksX4_made_2 15 rfl rfl)
theorem dX4_made_61 : decode cX4_made 61 = .ok (.isub, 1) := dk_100 (dk_at dksX4_made_2 16 rfl rfl)
theorem dX4_made_62 : decode cX4_made 62 = .ok (.invokestatic 352, 3) := dk_184 1 96 (dk_at dksX4_made_2 17 rfl rfl)
theorem dX4_made_65 : decode cX4_made 65 = .ok (.iload_n 2, 1) := dk_28 (dk_at dksX4_made_2 20 rfl rfl)
theorem dX4_made_66 : decode cX4_made 66 = .ok (.if_icmp .gt 10, 3) := dk_163 0 10 (dk_at dksX4_made_2 21 rfl rfl)
theorem dX4_made_69 : decode cX4_made 69 = .ok (.iload_n 3, 1) := dk_29 (dk_at dksX4_made_3 0 rfl rfl)
theorem dX4_made_70 : decode cX4_made 70 = .ok (.iconst 1, 1) := dk_4 (dk_at dksX4_made_3 1 rfl rfl)
theorem dX4_made_71 : decode cX4_made 71 = .ok (.iload 4, 2) := dk_21 4 (dk_at dksX4_made_3 2 rfl rfl)
theorem dX4_made_73 : decode cX4_made 73 = .ok (.ishl, 1) := dk_120 (dk_at dksX4_made_3 4 rfl rfl)
theorem dX4_made_74 : decode cX4_made 74 = .ok (.ior, 1) := dk_128 (dk_at dksX4_made_3 5 rfl rfl)
theorem dX4_made_75 : decode cX4_made 75 = .ok (.istore_n 3, 1) := dk_62 (dk_at dksX4_made_3 6 rfl rfl)
theorem dX4_made_76 : decode cX4_made 76 = .ok (.iinc 4 1, 3) := dk_132 4 1 (dk_at dksX4_made_3 7 rfl rfl)
theorem dX4_made_79 : decode cX4_made 79 = .ok (.goto (-54), 3) := dk_167 255 202 (dk_at dksX4_made_3 10 rfl rfl)
theorem dX4_made_82 : decode cX4_made 82 = .ok (.iload_n 3, 1) := dk_29 (dk_at dksX4_made_3 13 rfl rfl)
theorem dX4_made_83 : decode cX4_made 83 = .ok (.ireturn, 1) := dk_172 (dk_at dksX4_made_3 14 rfl rfl)
abbrev cX4_apart : ByteArray := prog_27_method_62_code
def yX4_apart : MethodName := ⟨RX4, "apart", "(IIZ)I"⟩
def dkwX4_apart_2 : List UInt8 := [167, 0, 4, 2, 172]
abbrev dktX4_apart_2 : List UInt8 := dkwX4_apart_2 ++ []
def dkwX4_apart_1 : List UInt8 := [153, 0, 15, 42, 42, 28, 182, 1, 136, 182, 1, 93, 167, 0, 8, 42, 28, 182, 1, 136, 130, 184, 1, 96]
abbrev dktX4_apart_1 : List UInt8 := dkwX4_apart_1 ++ dktX4_apart_2
def dkwX4_apart_0 : List UInt8 := [42, 27, 182, 1, 127, 153, 0, 44, 42, 28, 182, 1, 127, 153, 0, 36, 42, 27, 182, 1, 136, 29]
abbrev dktX4_apart_0 : List UInt8 := dkwX4_apart_0 ++ dktX4_apart_1
theorem dksX4_apart_0 : cX4_apart.data.toList.drop 0 = dktX4_apart_0 := by decide +kernel
theorem dksX4_apart_1 : cX4_apart.data.toList.drop 22 = dktX4_apart_1 := dk_seg dksX4_apart_0 22 rfl rfl
theorem dksX4_apart_2 : cX4_apart.data.toList.drop 46 = dktX4_apart_2 := dk_seg dksX4_apart_1 24 rfl rfl
theorem dX4_apart_0 : decode cX4_apart 0 = .ok (.aload_n 0, 1) := dk_42 (dk_at dksX4_apart_0 0 rfl rfl)
theorem dX4_apart_1 : decode cX4_apart 1 = .ok (.iload_n 1, 1) := dk_27 (dk_at dksX4_apart_0 1 rfl rfl)
theorem dX4_apart_2 : decode cX4_apart 2 = .ok (.invokevirtual 383, 3) := dk_182 1 127 (dk_at dksX4_apart_0 2 rfl rfl)
theorem dX4_apart_5 : decode cX4_apart 5 = .ok (.ifCond .eq 44, 3) := dk_153 0 44 (dk_at dksX4_apart_0 5 rfl rfl)
theorem dX4_apart_8 : decode cX4_apart 8 = .ok (.aload_n 0, 1) := dk_42 (dk_at dksX4_apart_0 8 rfl rfl)
theorem dX4_apart_9 : decode cX4_apart 9 = .ok (.iload_n 2, 1) := dk_28 (dk_at dksX4_apart_0 9 rfl rfl)
theorem dX4_apart_10 : decode cX4_apart 10 = .ok (.invokevirtual 383, 3) := dk_182 1 127 (dk_at dksX4_apart_0 10 rfl rfl)
theorem dX4_apart_13 : decode cX4_apart 13 = .ok (.ifCond .eq 36, 3) := dk_153 0 36 (dk_at dksX4_apart_0 13 rfl rfl)
theorem dX4_apart_16 : decode cX4_apart 16 = .ok (.aload_n 0, 1) := dk_42 (dk_at dksX4_apart_0 16 rfl rfl)
theorem dX4_apart_17 : decode cX4_apart 17 = .ok (.iload_n 1, 1) := dk_27 (dk_at dksX4_apart_0 17 rfl rfl)
theorem dX4_apart_18 : decode cX4_apart 18 = .ok (.invokevirtual 392, 3) := dk_182 1 136 (dk_at dksX4_apart_0 18 rfl rfl)
theorem dX4_apart_21 : decode cX4_apart 21 = .ok (.iload_n 3, 1) := dk_29 (dk_at dksX4_apart_0 21 rfl rfl)
theorem dX4_apart_22 : decode cX4_apart 22 = .ok (.ifCond .eq 15, 3) := dk_153 0 15 (dk_at dksX4_apart_1 0 rfl rfl)
theorem dX4_apart_25 : decode cX4_apart 25 = .ok (.aload_n 0, 1) := dk_42 (dk_at dksX4_apart_1 3 rfl rfl)
theorem dX4_apart_26 : decode cX4_apart 26 = .ok (.aload_n 0, 1) := dk_42 (dk_at dksX4_apart_1 4 rfl rfl)
theorem dX4_apart_27 : decode cX4_apart 27 = .ok (.iload_n 2, 1) := dk_28 (dk_at dksX4_apart_1 5 rfl rfl)
theorem dX4_apart_28 : decode cX4_apart 28 = .ok (.invokevirtual 392, 3) := dk_182 1 136 (dk_at dksX4_apart_1 6 rfl rfl)
theorem dX4_apart_31 : decode cX4_apart 31 = .ok (.invokevirtual 349, 3) := dk_182 1 93 (dk_at dksX4_apart_1 9 rfl rfl)
theorem dX4_apart_34 : decode cX4_apart 34 = .ok (.goto 8, 3) := dk_167 0 8 (dk_at dksX4_apart_1 12 rfl rfl)
theorem dX4_apart_37 : decode cX4_apart 37 = .ok (.aload_n 0, 1) := dk_42 (dk_at dksX4_apart_1 15 rfl rfl)
theorem dX4_apart_38 : decode cX4_apart 38 = .ok (.iload_n 2, 1) := dk_28 (dk_at dksX4_apart_1 16 rfl rfl)
theorem dX4_apart_39 : decode cX4_apart 39 = .ok (.invokevirtual 392, 3) := dk_182 1 136 (dk_at dksX4_apart_1 17 rfl rfl)
theorem dX4_apart_42 : decode cX4_apart 42 = .ok (.ixor, 1) := dk_130 (dk_at dksX4_apart_1 20 rfl rfl)
theorem dX4_apart_43 : decode cX4_apart 43 = .ok (.invokestatic 352, 3) := dk_184 1 96 (dk_at dksX4_apart_1 21 rfl rfl)
theorem dX4_apart_46 : decode cX4_apart 46 = .ok (.goto 4, 3) := dk_167 0 4 (dk_at dksX4_apart_2 0 rfl rfl)
theorem dX4_apart_49 : decode cX4_apart 49 = .ok (.iconst (-1), 1) := dk_2 (dk_at dksX4_apart_2 3 rfl rfl)
theorem dX4_apart_50 : decode cX4_apart 50 = .ok (.ireturn, 1) := dk_172 (dk_at dksX4_apart_2 4 rfl rfl)
abbrev cX4_heats : ByteArray := prog_27_method_63_code
def yX4_heats : MethodName := ⟨RX4, "heats", "(III)I"⟩
def dkwX4_heats_3 : List UInt8 := [21, 4, 172]
abbrev dktX4_heats_3 : List UInt8 := dkwX4_heats_3 ++ []
def dkwX4_heats_2 : List UInt8 := [3, 182, 1, 111, 29, 160, 0, 12, 21, 4, 4, 21, 5, 120, 128, 54, 4, 132, 5, 1, 167, 255, 220]
abbrev dktX4_heats_2 : List UInt8 := dkwX4_heats_2 ++ dktX4_heats_3
def dkwX4_heats_1 : List UInt8 := [2, 172, 3, 54, 4, 3, 54, 5, 21, 5, 16, 9, 163, 0, 35, 42, 42, 27, 182, 1, 136, 28, 21, 5]
abbrev dktX4_heats_1 : List UInt8 := dkwX4_heats_1 ++ dktX4_heats_2
def dkwX4_heats_0 : List UInt8 := [42, 27, 182, 1, 127, 153, 0, 19, 42, 28, 182, 1, 105, 153, 0, 11, 42, 29, 182, 1, 102, 154, 0, 5]
abbrev dktX4_heats_0 : List UInt8 := dkwX4_heats_0 ++ dktX4_heats_1
theorem dksX4_heats_0 : cX4_heats.data.toList.drop 0 = dktX4_heats_0 := by decide +kernel
theorem dksX4_heats_1 : cX4_heats.data.toList.drop 24 = dktX4_heats_1 := dk_seg dksX4_heats_0 24 rfl rfl
theorem dksX4_heats_2 : cX4_heats.data.toList.drop 48 = dktX4_heats_2 := dk_seg dksX4_heats_1 24 rfl rfl
theorem dksX4_heats_3 : cX4_heats.data.toList.drop 71 = dktX4_heats_3 := dk_seg dksX4_heats_2 23 rfl rfl
theorem dX4_heats_0 : decode cX4_heats 0 = .ok (.aload_n 0, 1) := dk_42 (dk_at dksX4_heats_0 0 rfl rfl)
theorem dX4_heats_1 : decode cX4_heats 1 = .ok (.iload_n 1, 1) := dk_27 (dk_at dksX4_heats_0 1 rfl rfl)
theorem dX4_heats_2 : decode cX4_heats 2 = .ok (.invokevirtual 383, 3) := dk_182 1 127 (dk_at dksX4_heats_0 2 rfl rfl)
theorem dX4_heats_5 : decode cX4_heats 5 = .ok (.ifCond .eq 19, 3) := dk_153 0 19 (dk_at dksX4_heats_0 5 rfl rfl)
theorem dX4_heats_8 : decode cX4_heats 8 = .ok (.aload_n 0, 1) := dk_42 (dk_at dksX4_heats_0 8 rfl rfl)
theorem dX4_heats_9 : decode cX4_heats 9 = .ok (.iload_n 2, 1) := dk_28 (dk_at dksX4_heats_0 9 rfl rfl)
theorem dX4_heats_10 : decode cX4_heats 10 = .ok (.invokevirtual 361, 3) := dk_182 1 105 (dk_at dksX4_heats_0 10 rfl rfl)
theorem dX4_heats_13 : decode cX4_heats 13 = .ok (.ifCond .eq 11, 3) := dk_153 0 11 (dk_at dksX4_heats_0 13 rfl rfl)
theorem dX4_heats_16 : decode cX4_heats 16 = .ok (.aload_n 0, 1) := dk_42 (dk_at dksX4_heats_0 16 rfl rfl)
theorem dX4_heats_17 : decode cX4_heats 17 = .ok (.iload_n 3, 1) := dk_29 (dk_at dksX4_heats_0 17 rfl rfl)
theorem dX4_heats_18 : decode cX4_heats 18 = .ok (.invokevirtual 358, 3) := dk_182 1 102 (dk_at dksX4_heats_0 18 rfl rfl)
theorem dX4_heats_21 : decode cX4_heats 21 = .ok (.ifCond .ne 5, 3) := dk_154 0 5 (dk_at dksX4_heats_0 21 rfl rfl)
theorem dX4_heats_24 : decode cX4_heats 24 = .ok (.iconst (-1), 1) := dk_2 (dk_at dksX4_heats_1 0 rfl rfl)
theorem dX4_heats_25 : decode cX4_heats 25 = .ok (.ireturn, 1) := dk_172 (dk_at dksX4_heats_1 1 rfl rfl)
theorem dX4_heats_26 : decode cX4_heats 26 = .ok (.iconst 0, 1) := dk_3 (dk_at dksX4_heats_1 2 rfl rfl)
theorem dX4_heats_27 : decode cX4_heats 27 = .ok (.istore 4, 2) := dk_54 4 (dk_at dksX4_heats_1 3 rfl rfl)
theorem dX4_heats_29 : decode cX4_heats 29 = .ok (.iconst 0, 1) := dk_3 (dk_at dksX4_heats_1 5 rfl rfl)
theorem dX4_heats_30 : decode cX4_heats 30 = .ok (.istore 5, 2) := dk_54 5 (dk_at dksX4_heats_1 6 rfl rfl)
theorem dX4_heats_32 : decode cX4_heats 32 = .ok (.iload 5, 2) := dk_21 5 (dk_at dksX4_heats_1 8 rfl rfl)
theorem dX4_heats_34 : decode cX4_heats 34 = .ok (.bipush 9, 2) := dk_16 9 (dk_at dksX4_heats_1 10 rfl rfl)
theorem dX4_heats_36 : decode cX4_heats 36 = .ok (.if_icmp .gt 35, 3) := dk_163 0 35 (dk_at dksX4_heats_1 12 rfl rfl)
theorem dX4_heats_39 : decode cX4_heats 39 = .ok (.aload_n 0, 1) := dk_42 (dk_at dksX4_heats_1 15 rfl rfl)
theorem dX4_heats_40 : decode cX4_heats 40 = .ok (.aload_n 0, 1) := dk_42 (dk_at dksX4_heats_1 16 rfl rfl)
theorem dX4_heats_41 : decode cX4_heats 41 = .ok (.iload_n 1, 1) := dk_27 (dk_at dksX4_heats_1 17 rfl rfl)
theorem dX4_heats_42 : decode cX4_heats 42 = .ok (.invokevirtual 392, 3) := dk_182 1 136 (dk_at dksX4_heats_1 18 rfl rfl)
theorem dX4_heats_45 : decode cX4_heats 45 = .ok (.iload_n 2, 1) := dk_28 (dk_at dksX4_heats_1 21 rfl rfl)
theorem dX4_heats_46 : decode cX4_heats 46 = .ok (.iload 5, 2) := dk_21 5 (dk_at dksX4_heats_1 22 rfl rfl)
theorem dX4_heats_48 : decode cX4_heats 48 = .ok (.iconst 0, 1) := dk_3 (dk_at dksX4_heats_2 0 rfl rfl)
theorem dX4_heats_49 : decode cX4_heats 49 = .ok (.invokevirtual 367, 3) := dk_182 1 111 (dk_at dksX4_heats_2 1 rfl rfl)
theorem dX4_heats_52 : decode cX4_heats 52 = .ok (.iload_n 3, 1) := dk_29 (dk_at dksX4_heats_2 4 rfl rfl)
theorem dX4_heats_53 : decode cX4_heats 53 = .ok (.if_icmp .ne 12, 3) := dk_160 0 12 (dk_at dksX4_heats_2 5 rfl rfl)
theorem dX4_heats_56 : decode cX4_heats 56 = .ok (.iload 4, 2) := dk_21 4 (dk_at dksX4_heats_2 8 rfl rfl)
theorem dX4_heats_58 : decode cX4_heats 58 = .ok (.iconst 1, 1) := dk_4 (dk_at dksX4_heats_2 10 rfl rfl)
theorem dX4_heats_59 : decode cX4_heats 59 = .ok (.iload 5, 2) := dk_21 5 (dk_at dksX4_heats_2 11 rfl rfl)
theorem dX4_heats_61 : decode cX4_heats 61 = .ok (.ishl, 1) := dk_120 (dk_at dksX4_heats_2 13 rfl rfl)
theorem dX4_heats_62 : decode cX4_heats 62 = .ok (.ior, 1) := dk_128 (dk_at dksX4_heats_2 14 rfl rfl)
theorem dX4_heats_63 : decode cX4_heats 63 = .ok (.istore 4, 2) := dk_54 4 (dk_at dksX4_heats_2 15 rfl rfl)
theorem dX4_heats_65 : decode cX4_heats 65 = .ok (.iinc 5 1, 3) := dk_132 5 1 (dk_at dksX4_heats_2 17 rfl rfl)
theorem dX4_heats_68 : decode cX4_heats 68 = .ok (.goto (-36), 3) := dk_167 255 220 (dk_at dksX4_heats_2 20 rfl rfl)
theorem dX4_heats_71 : decode cX4_heats 71 = .ok (.iload 4, 2) := dk_21 4 (dk_at dksX4_heats_3 0 rfl rfl)
theorem dX4_heats_73 : decode cX4_heats 73 = .ok (.ireturn, 1) := dk_172 (dk_at dksX4_heats_3 2 rfl rfl)
abbrev cX4_luck : ByteArray := prog_27_method_66_code
def yX4_luck : MethodName := ⟨RX4, "luck", "(IIII)I"⟩
def dkwX4_luck_1 : List UInt8 := [21, 4, 182, 1, 145, 167, 0, 4, 2, 172]
abbrev dktX4_luck_1 : List UInt8 := dkwX4_luck_1 ++ []
def dkwX4_luck_0 : List UInt8 := [42, 27, 28, 29, 182, 1, 142, 153, 0, 24, 42, 21, 4, 182, 1, 102, 153, 0, 15, 42, 27, 28, 29]
abbrev dktX4_luck_0 : List UInt8 := dkwX4_luck_0 ++ dktX4_luck_1
theorem dksX4_luck_0 : cX4_luck.data.toList.drop 0 = dktX4_luck_0 := by decide +kernel
theorem dksX4_luck_1 : cX4_luck.data.toList.drop 23 = dktX4_luck_1 := dk_seg dksX4_luck_0 23 rfl rfl
theorem dX4_luck_0 : decode cX4_luck 0 = .ok (.aload_n 0, 1) := dk_42 (dk_at dksX4_luck_0 0 rfl rfl)
theorem dX4_luck_1 : decode cX4_luck 1 = .ok (.iload_n 1, 1) := dk_27 (dk_at dksX4_luck_0 1 rfl rfl)
theorem dX4_luck_2 : decode cX4_luck 2 = .ok (.iload_n 2, 1) := dk_28 (dk_at dksX4_luck_0 2 rfl rfl)
theorem dX4_luck_3 : decode cX4_luck 3 = .ok (.iload_n 3, 1) := dk_29 (dk_at dksX4_luck_0 3 rfl rfl)
theorem dX4_luck_4 : decode cX4_luck 4 = .ok (.invokevirtual 398, 3) := dk_182 1 142 (dk_at dksX4_luck_0 4 rfl rfl)
theorem dX4_luck_7 : decode cX4_luck 7 = .ok (.ifCond .eq 24, 3) := dk_153 0 24 (dk_at dksX4_luck_0 7 rfl rfl)
theorem dX4_luck_10 : decode cX4_luck 10 = .ok (.aload_n 0, 1) := dk_42 (dk_at dksX4_luck_0 10 rfl rfl)
theorem dX4_luck_11 : decode cX4_luck 11 = .ok (.iload 4, 2) := dk_21 4 (dk_at dksX4_luck_0 11 rfl rfl)
theorem dX4_luck_13 : decode cX4_luck 13 = .ok (.invokevirtual 358, 3) := dk_182 1 102 (dk_at dksX4_luck_0 13 rfl rfl)
theorem dX4_luck_16 : decode cX4_luck 16 = .ok (.ifCond .eq 15, 3) := dk_153 0 15 (dk_at dksX4_luck_0 16 rfl rfl)
theorem dX4_luck_19 : decode cX4_luck 19 = .ok (.aload_n 0, 1) := dk_42 (dk_at dksX4_luck_0 19 rfl rfl)
theorem dX4_luck_20 : decode cX4_luck 20 = .ok (.iload_n 1, 1) := dk_27 (dk_at dksX4_luck_0 20 rfl rfl)
theorem dX4_luck_21 : decode cX4_luck 21 = .ok (.iload_n 2, 1) := dk_28 (dk_at dksX4_luck_0 21 rfl rfl)
theorem dX4_luck_22 : decode cX4_luck 22 = .ok (.iload_n 3, 1) := dk_29 (dk_at dksX4_luck_0 22 rfl rfl)
theorem dX4_luck_23 : decode cX4_luck 23 = .ok (.iload 4, 2) := dk_21 4 (dk_at dksX4_luck_1 0 rfl rfl)
theorem dX4_luck_25 : decode cX4_luck 25 = .ok (.invokevirtual 401, 3) := dk_182 1 145 (dk_at dksX4_luck_1 2 rfl rfl)
theorem dX4_luck_28 : decode cX4_luck 28 = .ok (.goto 4, 3) := dk_167 0 4 (dk_at dksX4_luck_1 5 rfl rfl)
theorem dX4_luck_31 : decode cX4_luck 31 = .ok (.iconst (-1), 1) := dk_2 (dk_at dksX4_luck_1 8 rfl rfl)
theorem dX4_luck_32 : decode cX4_luck 32 = .ok (.ireturn, 1) := dk_172 (dk_at dksX4_luck_1 9 rfl rfl)
abbrev cX4_canCast : ByteArray := prog_27_method_65_code
def yX4_canCast : MethodName := ⟨RX4, "canCast", "(III)Z"⟩
def dkwX4_canCast_1 : List UInt8 := [167, 0, 4, 3, 172]
abbrev dktX4_canCast_1 : List UInt8 := dkwX4_canCast_1 ++ []
def dkwX4_canCast_0 : List UInt8 := [42, 27, 182, 1, 127, 153, 0, 22, 42, 28, 182, 1, 105, 153, 0, 14, 29, 184, 1, 108, 153, 0, 7, 4]
abbrev dktX4_canCast_0 : List UInt8 := dkwX4_canCast_0 ++ dktX4_canCast_1
theorem dksX4_canCast_0 : cX4_canCast.data.toList.drop 0 = dktX4_canCast_0 := by decide +kernel
theorem dksX4_canCast_1 : cX4_canCast.data.toList.drop 24 = dktX4_canCast_1 := dk_seg dksX4_canCast_0 24 rfl rfl
theorem dX4_canCast_0 : decode cX4_canCast 0 = .ok (.aload_n 0, 1) := dk_42 (dk_at dksX4_canCast_0 0 rfl rfl)
theorem dX4_canCast_1 : decode cX4_canCast 1 = .ok (.iload_n 1, 1) := dk_27 (dk_at dksX4_canCast_0 1 rfl rfl)
theorem dX4_canCast_2 : decode cX4_canCast 2 = .ok (.invokevirtual 383, 3) := dk_182 1 127 (dk_at dksX4_canCast_0 2 rfl rfl)
theorem dX4_canCast_5 : decode cX4_canCast 5 = .ok (.ifCond .eq 22, 3) := dk_153 0 22 (dk_at dksX4_canCast_0 5 rfl rfl)
theorem dX4_canCast_8 : decode cX4_canCast 8 = .ok (.aload_n 0, 1) := dk_42 (dk_at dksX4_canCast_0 8 rfl rfl)
theorem dX4_canCast_9 : decode cX4_canCast 9 = .ok (.iload_n 2, 1) := dk_28 (dk_at dksX4_canCast_0 9 rfl rfl)
theorem dX4_canCast_10 : decode cX4_canCast 10 = .ok (.invokevirtual 361, 3) := dk_182 1 105 (dk_at dksX4_canCast_0 10 rfl rfl)
theorem dX4_canCast_13 : decode cX4_canCast 13 = .ok (.ifCond .eq 14, 3) := dk_153 0 14 (dk_at dksX4_canCast_0 13 rfl rfl)
theorem dX4_canCast_16 : decode cX4_canCast 16 = .ok (.iload_n 3, 1) := dk_29 (dk_at dksX4_canCast_0 16 rfl rfl)
theorem dX4_canCast_17 : decode cX4_canCast 17 = .ok (.invokestatic 364, 3) := dk_184 1 108 (dk_at dksX4_canCast_0 17 rfl rfl)
theorem dX4_canCast_20 : decode cX4_canCast 20 = .ok (.ifCond .eq 7, 3) := dk_153 0 7 (dk_at dksX4_canCast_0 20 rfl rfl)
theorem dX4_canCast_23 : decode cX4_canCast 23 = .ok (.iconst 1, 1) := dk_4 (dk_at dksX4_canCast_0 23 rfl rfl)
theorem dX4_canCast_24 : decode cX4_canCast 24 = .ok (.goto 4, 3) := dk_167 0 4 (dk_at dksX4_canCast_1 0 rfl rfl)
theorem dX4_canCast_27 : decode cX4_canCast 27 = .ok (.iconst 0, 1) := dk_3 (dk_at dksX4_canCast_1 3 rfl rfl)
theorem dX4_canCast_28 : decode cX4_canCast 28 = .ok (.ireturn, 1) := dk_172 (dk_at dksX4_canCast_1 4 rfl rfl)
abbrev cX4_luckOf : ByteArray := prog_27_method_64_code
def yX4_luckOf : MethodName := ⟨RX4, "luckOf", "(IIII)I"⟩
def dkwX4_luckOf_2 : List UInt8 := [21, 5, 172]
abbrev dktX4_luckOf_2 : List UInt8 := dkwX4_luckOf_2 ++ []
def dkwX4_luckOf_1 : List UInt8 := [21, 6, 182, 1, 111, 21, 4, 160, 0, 7, 4, 167, 0, 4, 3, 96, 54, 5, 132, 6, 1, 167, 255, 218]
abbrev dktX4_luckOf_1 : List UInt8 := dkwX4_luckOf_1 ++ dktX4_luckOf_2
def dkwX4_luckOf_0 : List UInt8 := [3, 54, 5, 3, 54, 6, 21, 6, 16, 100, 162, 0, 37, 21, 5, 42, 42, 27, 182, 1, 136, 28, 29]
abbrev dktX4_luckOf_0 : List UInt8 := dkwX4_luckOf_0 ++ dktX4_luckOf_1
theorem dksX4_luckOf_0 : cX4_luckOf.data.toList.drop 0 = dktX4_luckOf_0 := by decide +kernel
theorem dksX4_luckOf_1 : cX4_luckOf.data.toList.drop 23 = dktX4_luckOf_1 := dk_seg dksX4_luckOf_0 23 rfl rfl
theorem dksX4_luckOf_2 : cX4_luckOf.data.toList.drop 47 = dktX4_luckOf_2 := dk_seg dksX4_luckOf_1 24 rfl rfl
theorem dX4_luckOf_0 : decode cX4_luckOf 0 = .ok (.iconst 0, 1) := dk_3 (dk_at dksX4_luckOf_0 0 rfl rfl)
theorem dX4_luckOf_1 : decode cX4_luckOf 1 = .ok (.istore 5, 2) := dk_54 5 (dk_at dksX4_luckOf_0 1 rfl rfl)
theorem dX4_luckOf_3 : decode cX4_luckOf 3 = .ok (.iconst 0, 1) := dk_3 (dk_at dksX4_luckOf_0 3 rfl rfl)
theorem dX4_luckOf_4 : decode cX4_luckOf 4 = .ok (.istore 6, 2) := dk_54 6 (dk_at dksX4_luckOf_0 4 rfl rfl)
theorem dX4_luckOf_6 : decode cX4_luckOf 6 = .ok (.iload 6, 2) := dk_21 6 (dk_at dksX4_luckOf_0 6 rfl rfl)
theorem dX4_luckOf_8 : decode cX4_luckOf 8 = .ok (.bipush 100, 2) := dk_16 100 (dk_at dksX4_luckOf_0 8 rfl rfl)
theorem dX4_luckOf_10 : decode cX4_luckOf 10 = .ok (.if_icmp .ge 37, 3) := dk_162 0 37 (dk_at dksX4_luckOf_0 10 rfl rfl)
theorem dX4_luckOf_13 : decode cX4_luckOf 13 = .ok (.iload 5, 2) := dk_21 5 (dk_at dksX4_luckOf_0 13 rfl rfl)
theorem dX4_luckOf_15 : decode cX4_luckOf 15 = .ok (.aload_n 0, 1) := dk_42 (dk_at dksX4_luckOf_0 15 rfl rfl)
theorem dX4_luckOf_16 : decode cX4_luckOf 16 = .ok (.aload_n 0, 1) := dk_42 (dk_at dksX4_luckOf_0 16 rfl rfl)
theorem dX4_luckOf_17 : decode cX4_luckOf 17 = .ok (.iload_n 1, 1) := dk_27 (dk_at dksX4_luckOf_0 17 rfl rfl)
theorem dX4_luckOf_18 : decode cX4_luckOf 18 = .ok (.invokevirtual 392, 3) := dk_182 1 136 (dk_at dksX4_luckOf_0 18 rfl rfl)
theorem dX4_luckOf_21 : decode cX4_luckOf 21 = .ok (.iload_n 2, 1) := dk_28 (dk_at dksX4_luckOf_0 21 rfl rfl)
theorem dX4_luckOf_22 : decode cX4_luckOf 22 = .ok (.iload_n 3, 1) := dk_29 (dk_at dksX4_luckOf_0 22 rfl rfl)
theorem dX4_luckOf_23 : decode cX4_luckOf 23 = .ok (.iload 6, 2) := dk_21 6 (dk_at dksX4_luckOf_1 0 rfl rfl)
theorem dX4_luckOf_25 : decode cX4_luckOf 25 = .ok (.invokevirtual 367, 3) := dk_182 1 111 (dk_at dksX4_luckOf_1 2 rfl rfl)
theorem dX4_luckOf_28 : decode cX4_luckOf 28 = .ok (.iload 4, 2) := dk_21 4 (dk_at dksX4_luckOf_1 5 rfl rfl)
theorem dX4_luckOf_30 : decode cX4_luckOf 30 = .ok (.if_icmp .ne 7, 3) := dk_160 0 7 (dk_at dksX4_luckOf_1 7 rfl rfl)
theorem dX4_luckOf_33 : decode cX4_luckOf 33 = .ok (.iconst 1, 1) := dk_4 (dk_at dksX4_luckOf_1 10 rfl rfl)
theorem dX4_luckOf_34 : decode cX4_luckOf 34 = .ok (.goto 4, 3) := dk_167 0 4 (dk_at dksX4_luckOf_1 11 rfl rfl)
theorem dX4_luckOf_37 : decode cX4_luckOf 37 = .ok (.iconst 0, 1) := dk_3 (dk_at dksX4_luckOf_1 14 rfl rfl)
theorem dX4_luckOf_38 : decode cX4_luckOf 38 = .ok (.iadd, 1) := dk_96 (dk_at dksX4_luckOf_1 15 rfl rfl)
theorem dX4_luckOf_39 : decode cX4_luckOf 39 = .ok (.istore 5, 2) := dk_54 5 (dk_at dksX4_luckOf_1 16 rfl rfl)
theorem dX4_luckOf_41 : decode cX4_luckOf 41 = .ok (.iinc 6 1, 3) := dk_132 6 1 (dk_at dksX4_luckOf_1 18 rfl rfl)
theorem dX4_luckOf_44 : decode cX4_luckOf 44 = .ok (.goto (-38), 3) := dk_167 255 218 (dk_at dksX4_luckOf_1 21 rfl rfl)
theorem dX4_luckOf_47 : decode cX4_luckOf 47 = .ok (.iload 5, 2) := dk_21 5 (dk_at dksX4_luckOf_2 0 rfl rfl)
theorem dX4_luckOf_49 : decode cX4_luckOf 49 = .ok (.ireturn, 1) := dk_172 (dk_at dksX4_luckOf_2 2 rfl rfl)
abbrev cX4_likely : ByteArray := prog_27_method_67_code
def yX4_likely : MethodName := ⟨RX4, "likely", "(IIII)I"⟩
def dkwX4_likely_7 : List UInt8 := [167, 255, 158, 21, 4, 154, 0, 8, 21, 5, 167, 0, 5, 21, 6, 172]
abbrev dktX4_likely_7 : List UInt8 := dkwX4_likely_7 ++ []
def dkwX4_likely_6 : List UInt8 := [21, 5, 161, 0, 6, 167, 0, 16, 21, 8, 54, 6, 42, 180, 0, 83, 21, 7, 46, 54, 5, 132, 7, 1]
abbrev dktX4_likely_6 : List UInt8 := dkwX4_likely_6 ++ dktX4_likely_7
def dkwX4_likely_5 : List UInt8 := [167, 255, 219, 21, 8, 21, 6, 161, 0, 38, 21, 8, 21, 6, 160, 0, 18, 42, 180, 0, 83, 21, 7, 46]
abbrev dktX4_likely_5 : List UInt8 := dkwX4_likely_5 ++ dktX4_likely_6
def dkwX4_likely_4 : List UInt8 := [21, 9, 46, 42, 180, 0, 83, 21, 7, 46, 160, 0, 7, 4, 167, 0, 4, 3, 96, 54, 8, 132, 9, 1]
abbrev dktX4_likely_4 : List UInt8 := dkwX4_likely_4 ++ dktX4_likely_5
def dkwX4_likely_3 : List UInt8 := [16, 100, 162, 0, 97, 3, 54, 8, 3, 54, 9, 21, 9, 16, 100, 162, 0, 36, 21, 8, 42, 180, 0, 83]
abbrev dktX4_likely_3 : List UInt8 := dkwX4_likely_3 ++ dktX4_likely_4
def dkwX4_likely_2 : List UInt8 := [21, 5, 182, 1, 111, 79, 132, 5, 1, 167, 255, 226, 2, 54, 5, 3, 54, 6, 3, 54, 7, 21, 7]
abbrev dktX4_likely_2 : List UInt8 := dkwX4_likely_2 ++ dktX4_likely_3
def dkwX4_likely_1 : List UInt8 := [54, 5, 21, 5, 16, 100, 162, 0, 29, 42, 180, 0, 83, 21, 5, 42, 42, 27, 182, 1, 136, 28, 29]
abbrev dktX4_likely_1 : List UInt8 := dkwX4_likely_1 ++ dktX4_likely_2
def dkwX4_likely_0 : List UInt8 := [42, 27, 28, 29, 182, 1, 142, 153, 0, 13, 21, 4, 3, 4, 184, 1, 89, 154, 0, 5, 2, 172, 3]
abbrev dktX4_likely_0 : List UInt8 := dkwX4_likely_0 ++ dktX4_likely_1
theorem dksX4_likely_0 : cX4_likely.data.toList.drop 0 = dktX4_likely_0 := by decide +kernel
theorem dksX4_likely_1 : cX4_likely.data.toList.drop 23 = dktX4_likely_1 := dk_seg dksX4_likely_0 23 rfl rfl
theorem dksX4_likely_2 : cX4_likely.data.toList.drop 46 = dktX4_likely_2 := dk_seg dksX4_likely_1 23 rfl rfl
theorem dksX4_likely_3 : cX4_likely.data.toList.drop 69 = dktX4_likely_3 := dk_seg dksX4_likely_2 23 rfl rfl
theorem dksX4_likely_4 : cX4_likely.data.toList.drop 93 = dktX4_likely_4 := dk_seg dksX4_likely_3 24 rfl rfl
theorem dksX4_likely_5 : cX4_likely.data.toList.drop 117 = dktX4_likely_5 := dk_seg dksX4_likely_4 24 rfl rfl
theorem dksX4_likely_6 : cX4_likely.data.toList.drop 141 = dktX4_likely_6 := dk_seg dksX4_likely_5 24 rfl rfl
theorem dksX4_likely_7 : cX4_likely.data.toList.drop 165 = dktX4_likely_7 := dk_seg dksX4_likely_6 24 rfl rfl
theorem dX4_likely_0 : decode cX4_likely 0 = .ok (.aload_n 0, 1) := dk_42 (dk_at dksX4_likely_0 0 rfl rfl)
theorem dX4_likely_1 : decode cX4_likely 1 = .ok (.iload_n 1, 1) := dk_27 (dk_at dksX4_likely_0 1 rfl rfl)
theorem dX4_likely_2 : decode cX4_likely 2 = .ok (.iload_n 2, 1) := dk_28 (dk_at dksX4_likely_0 2 rfl rfl)
theorem dX4_likely_3 : decode cX4_likely 3 = .ok (.iload_n 3, 1) := dk_29 (dk_at dksX4_likely_0 3 rfl rfl)
theorem dX4_likely_4 : decode cX4_likely 4 = .ok (.invokevirtual 398, 3) := dk_182 1 142 (dk_at dksX4_likely_0 4 rfl rfl)
theorem dX4_likely_7 : decode cX4_likely 7 = .ok (.ifCond .eq 13, 3) := dk_153 0 13 (dk_at dksX4_likely_0 7 rfl rfl)
theorem dX4_likely_10 : decode cX4_likely 10 = .ok (.iload 4, 2) := dk_21 4 (dk_at dksX4_likely_0 10 rfl rfl)
theorem dX4_likely_12 : decode cX4_likely 12 = .ok (.iconst 0, 1) := dk_3 (dk_at dksX4_likely_0 12 rfl rfl)
theorem dX4_likely_13 : decode cX4_likely 13 = .ok (.iconst 1, 1) := dk_4 (dk_at dksX4_likely_0 13 rfl rfl)
theorem dX4_likely_14 : decode cX4_likely 14 = .ok (.invokestatic 345, 3) := dk_184 1 89 (dk_at dksX4_likely_0 14 rfl rfl)
theorem dX4_likely_17 : decode cX4_likely 17 = .ok (.ifCond .ne 5, 3) := dk_154 0 5 (dk_at dksX4_likely_0 17 rfl rfl)
theorem dX4_likely_20 : decode cX4_likely 20 = .ok (.iconst (-1), 1) := dk_2 (dk_at dksX4_likely_0 20 rfl rfl)
theorem dX4_likely_21 : decode cX4_likely 21 = .ok (.ireturn, 1) := dk_172 (dk_at dksX4_likely_0 21 rfl rfl)
theorem dX4_likely_22 : decode cX4_likely 22 = .ok (.iconst 0, 1) := dk_3 (dk_at dksX4_likely_0 22 rfl rfl)
theorem dX4_likely_23 : decode cX4_likely 23 = .ok (.istore 5, 2) := dk_54 5 (dk_at dksX4_likely_1 0 rfl rfl)
theorem dX4_likely_25 : decode cX4_likely 25 = .ok (.iload 5, 2) := dk_21 5 (dk_at dksX4_likely_1 2 rfl rfl)
theorem dX4_likely_27 : decode cX4_likely 27 = .ok (.bipush 100, 2) := dk_16 100 (dk_at dksX4_likely_1 4 rfl rfl)
theorem dX4_likely_29 : decode cX4_likely 29 = .ok (.if_icmp .ge 29, 3) := dk_162 0 29 (dk_at dksX4_likely_1 6 rfl rfl)
theorem dX4_likely_32 : decode cX4_likely 32 = .ok (.aload_n 0, 1) := dk_42 (dk_at dksX4_likely_1 9 rfl rfl)
theorem dX4_likely_33 : decode cX4_likely 33 = .ok (.getfield 83, 3) := dk_180 0 83 (dk_at dksX4_likely_1 10 rfl rfl)
theorem dX4_likely_36 : decode cX4_likely 36 = .ok (.iload 5, 2) := dk_21 5 (dk_at dksX4_likely_1 13 rfl rfl)
theorem dX4_likely_38 : decode cX4_likely 38 = .ok (.aload_n 0, 1) := dk_42 (dk_at dksX4_likely_1 15 rfl rfl)
theorem dX4_likely_39 : decode cX4_likely 39 = .ok (.aload_n 0, 1) := dk_42 (dk_at dksX4_likely_1 16 rfl rfl)
theorem dX4_likely_40 : decode cX4_likely 40 = .ok (.iload_n 1, 1) := dk_27 (dk_at dksX4_likely_1 17 rfl rfl)
theorem dX4_likely_41 : decode cX4_likely 41 = .ok (.invokevirtual 392, 3) := dk_182 1 136 (dk_at dksX4_likely_1 18 rfl rfl)
theorem dX4_likely_44 : decode cX4_likely 44 = .ok (.iload_n 2, 1) := dk_28 (dk_at dksX4_likely_1 21 rfl rfl)
theorem dX4_likely_45 : decode cX4_likely 45 = .ok (.iload_n 3, 1) := dk_29 (dk_at dksX4_likely_1 22 rfl rfl)
theorem dX4_likely_46 : decode cX4_likely 46 = .ok (.iload 5, 2) := dk_21 5 (dk_at dksX4_likely_2 0 rfl rfl)
theorem dX4_likely_48 : decode cX4_likely 48 = .ok (.invokevirtual 367, 3) := dk_182 1 111 (dk_at dksX4_likely_2 2 rfl rfl)
theorem dX4_likely_51 : decode cX4_likely 51 = .ok (.iastore, 1) := dk_79 (dk_at dksX4_likely_2 5 rfl rfl)
theorem dX4_likely_52 : decode cX4_likely 52 = .ok (.iinc 5 1, 3) := dk_132 5 1 (dk_at dksX4_likely_2 6 rfl rfl)
theorem dX4_likely_55 : decode cX4_likely 55 = .ok (.goto (-30), 3) := dk_167 255 226 (dk_at dksX4_likely_2 9 rfl rfl)
theorem dX4_likely_58 : decode cX4_likely 58 = .ok (.iconst (-1), 1) := dk_2 (dk_at dksX4_likely_2 12 rfl rfl)
theorem dX4_likely_59 : decode cX4_likely 59 = .ok (.istore 5, 2) := dk_54 5 (dk_at dksX4_likely_2 13 rfl rfl)
theorem dX4_likely_61 : decode cX4_likely 61 = .ok (.iconst 0, 1) := dk_3 (dk_at dksX4_likely_2 15 rfl rfl)
theorem dX4_likely_62 : decode cX4_likely 62 = .ok (.istore 6, 2) := dk_54 6 (dk_at dksX4_likely_2 16 rfl rfl)
theorem dX4_likely_64 : decode cX4_likely 64 = .ok (.iconst 0, 1) := dk_3 (dk_at dksX4_likely_2 18 rfl rfl)
theorem dX4_likely_65 : decode cX4_likely 65 = .ok (.istore 7, 2) := dk_54 7 (dk_at dksX4_likely_2 19 rfl rfl)
theorem dX4_likely_67 : decode cX4_likely 67 = .ok (.iload 7, 2) := dk_21 7 (dk_at dksX4_likely_2 21 rfl rfl)
theorem dX4_likely_69 : decode cX4_likely 69 = .ok (.bipush 100, 2) := dk_16 100 (dk_at dksX4_likely_3 0 rfl rfl)
theorem dX4_likely_71 : decode cX4_likely 71 = .ok (.if_icmp .ge 97, 3) := dk_162 0 97 (dk_at dksX4_likely_3 2 rfl rfl)
theorem dX4_likely_74 : decode cX4_likely 74 = .ok (.iconst 0, 1) := dk_3 (dk_at dksX4_likely_3 5 rfl rfl)
theorem dX4_likely_75 : decode cX4_likely 75 = .ok (.istore 8, 2) := dk_54 8 (dk_at dksX4_likely_3 6 rfl rfl)
theorem dX4_likely_77 : decode cX4_likely 77 = .ok (.iconst 0, 1) := dk_3 (dk_at dksX4_likely_3 8 rfl rfl)
theorem dX4_likely_78 : decode cX4_likely 78 = .ok (.istore 9, 2) := dk_54 9 (dk_at dksX4_likely_3 9 rfl rfl)
theorem dX4_likely_80 : decode cX4_likely 80 = .ok (.iload 9, 2) := dk_21 9 (dk_at dksX4_likely_3 11 rfl rfl)
theorem dX4_likely_82 : decode cX4_likely 82 = .ok (.bipush 100, 2) := dk_16 100 (dk_at dksX4_likely_3 13 rfl rfl)
theorem dX4_likely_84 : decode cX4_likely 84 = .ok (.if_icmp .ge 36, 3) := dk_162 0 36 (dk_at dksX4_likely_3 15 rfl rfl)
theorem dX4_likely_87 : decode cX4_likely 87 = .ok (.iload 8, 2) := dk_21 8 (dk_at dksX4_likely_3 18 rfl rfl)
theorem dX4_likely_89 : decode cX4_likely 89 = .ok (.aload_n 0, 1) := dk_42 (dk_at dksX4_likely_3 20 rfl rfl)
theorem dX4_likely_90 : decode cX4_likely 90 = .ok (.getfield 83, 3) := dk_180 0 83 (dk_at dksX4_likely_3 21 rfl rfl)
theorem dX4_likely_93 : decode cX4_likely 93 = .ok (.iload 9, 2) := dk_21 9 (dk_at dksX4_likely_4 0 rfl rfl)
theorem dX4_likely_95 : decode cX4_likely 95 = .ok (.iaload, 1) := dk_46 (dk_at dksX4_likely_4 2 rfl rfl)
theorem dX4_likely_96 : decode cX4_likely 96 = .ok (.aload_n 0, 1) := dk_42 (dk_at dksX4_likely_4 3 rfl rfl)
theorem dX4_likely_97 : decode cX4_likely 97 = .ok (.getfield 83, 3) := dk_180 0 83 (dk_at dksX4_likely_4 4 rfl rfl)
theorem dX4_likely_100 : decode cX4_likely 100 = .ok (.iload 7, 2) := dk_21 7 (dk_at dksX4_likely_4 7 rfl rfl)
theorem dX4_likely_102 : decode cX4_likely 102 = .ok (.iaload, 1) := dk_46 (dk_at dksX4_likely_4 9 rfl rfl)
theorem dX4_likely_103 : decode cX4_likely 103 = .ok (.if_icmp .ne 7, 3) := dk_160 0 7 (dk_at dksX4_likely_4 10 rfl rfl)
theorem dX4_likely_106 : decode cX4_likely 106 = .ok (.iconst 1, 1) := dk_4 (dk_at dksX4_likely_4 13 rfl rfl)
theorem dX4_likely_107 : decode cX4_likely 107 = .ok (.goto 4, 3) := dk_167 0 4 (dk_at dksX4_likely_4 14 rfl rfl)
theorem dX4_likely_110 : decode cX4_likely 110 = .ok (.iconst 0, 1) := dk_3 (dk_at dksX4_likely_4 17 rfl rfl)
theorem dX4_likely_111 : decode cX4_likely 111 = .ok (.iadd, 1) := dk_96 (dk_at dksX4_likely_4 18 rfl rfl)
theorem dX4_likely_112 : decode cX4_likely 112 = .ok (.istore 8, 2) := dk_54 8 (dk_at dksX4_likely_4 19 rfl rfl)
theorem dX4_likely_114 : decode cX4_likely 114 = .ok (.iinc 9 1, 3) := dk_132 9 1 (dk_at dksX4_likely_4 21 rfl rfl)
theorem dX4_likely_117 : decode cX4_likely 117 = .ok (.goto (-37), 3) := dk_167 255 219 (dk_at dksX4_likely_5 0 rfl rfl)
theorem dX4_likely_120 : decode cX4_likely 120 = .ok (.iload 8, 2) := dk_21 8 (dk_at dksX4_likely_5 3 rfl rfl)
theorem dX4_likely_122 : decode cX4_likely 122 = .ok (.iload 6, 2) := dk_21 6 (dk_at dksX4_likely_5 5 rfl rfl)
theorem dX4_likely_124 : decode cX4_likely 124 = .ok (.if_icmp .lt 38, 3) := dk_161 0 38 (dk_at dksX4_likely_5 7 rfl rfl)
theorem dX4_likely_127 : decode cX4_likely 127 = .ok (.iload 8, 2) := dk_21 8 (dk_at dksX4_likely_5 10 rfl rfl)
theorem dX4_likely_129 : decode cX4_likely 129 = .ok (.iload 6, 2) := dk_21 6 (dk_at dksX4_likely_5 12 rfl rfl)
theorem dX4_likely_131 : decode cX4_likely 131 = .ok (.if_icmp .ne 18, 3) := dk_160 0 18 (dk_at dksX4_likely_5 14 rfl rfl)
theorem dX4_likely_134 : decode cX4_likely 134 = .ok (.aload_n 0, 1) := dk_42 (dk_at dksX4_likely_5 17 rfl rfl)
theorem dX4_likely_135 : decode cX4_likely 135 = .ok (.getfield 83, 3) := dk_180 0 83 (dk_at dksX4_likely_5 18 rfl rfl)
theorem dX4_likely_138 : decode cX4_likely 138 = .ok (.iload 7, 2) := dk_21 7 (dk_at dksX4_likely_5 21 rfl rfl)
theorem dX4_likely_140 : decode cX4_likely 140 = .ok (.iaload, 1) := dk_46 (dk_at dksX4_likely_5 23 rfl rfl)
theorem dX4_likely_141 : decode cX4_likely 141 = .ok (.iload 5, 2) := dk_21 5 (dk_at dksX4_likely_6 0 rfl rfl)
theorem dX4_likely_143 : decode cX4_likely 143 = .ok (.if_icmp .lt 6, 3) := dk_161 0 6 (dk_at dksX4_likely_6 2 rfl rfl)
theorem dX4_likely_146 : decode cX4_likely 146 = .ok (.goto 16, 3) := dk_167 0 16 (dk_at dksX4_likely_6 5 rfl rfl)
theorem dX4_likely_149 : decode cX4_likely 149 = .ok (.iload 8, 2) := dk_21 8 (dk_at dksX4_likely_6 8 rfl rfl)
theorem dX4_likely_151 : decode cX4_likely 151 = .ok (.istore 6, 2) := dk_54 6 (dk_at dksX4_likely_6 10 rfl rfl)
theorem dX4_likely_153 : decode cX4_likely 153 = .ok (.aload_n 0, 1) := dk_42 (dk_at dksX4_likely_6 12 rfl rfl)
theorem dX4_likely_154 : decode cX4_likely 154 = .ok (.getfield 83, 3) := dk_180 0 83 (dk_at dksX4_likely_6 13 rfl rfl)
theorem dX4_likely_157 : decode cX4_likely 157 = .ok (.iload 7, 2) := dk_21 7 (dk_at dksX4_likely_6 16 rfl rfl)
theorem dX4_likely_159 : decode cX4_likely 159 = .ok (.iaload, 1) := dk_46 (dk_at dksX4_likely_6 18 rfl rfl)
theorem dX4_likely_160 : decode cX4_likely 160 = .ok (.istore 5, 2) := dk_54 5 (dk_at dksX4_likely_6 19 rfl rfl)
theorem dX4_likely_162 : decode cX4_likely 162 = .ok (.iinc 7 1, 3) := dk_132 7 1 (dk_at dksX4_likely_6 21 rfl rfl)
theorem dX4_likely_165 : decode cX4_likely 165 = .ok (.goto (-98), 3) := dk_167 255 158 (dk_at dksX4_likely_7 0 rfl rfl)
theorem dX4_likely_168 : decode cX4_likely 168 = .ok (.iload 4, 2) := dk_21 4 (dk_at dksX4_likely_7 3 rfl rfl)
theorem dX4_likely_170 : decode cX4_likely 170 = .ok (.ifCond .ne 8, 3) := dk_154 0 8 (dk_at dksX4_likely_7 5 rfl rfl)
theorem dX4_likely_173 : decode cX4_likely 173 = .ok (.iload 5, 2) := dk_21 5 (dk_at dksX4_likely_7 8 rfl rfl)
theorem dX4_likely_175 : decode cX4_likely 175 = .ok (.goto 5, 3) := dk_167 0 5 (dk_at dksX4_likely_7 10 rfl rfl)
theorem dX4_likely_178 : decode cX4_likely 178 = .ok (.iload 6, 2) := dk_21 6 (dk_at dksX4_likely_7 13 rfl rfl)
theorem dX4_likely_180 : decode cX4_likely 180 = .ok (.ireturn, 1) := dk_172 (dk_at dksX4_likely_7 15 rfl rfl)
abbrev cX4_fades : ByteArray := prog_27_method_68_code
def yX4_fades : MethodName := ⟨RX4, "fades", "(III)I"⟩
def dkwX4_fades_2 : List UInt8 := [54, 4, 132, 5, 1, 167, 255, 226, 2, 172]
abbrev dktX4_fades_2 : List UInt8 := dkwX4_fades_2 ++ []
def dkwX4_fades_1 : List UInt8 := [17, 16, 0, 163, 0, 28, 21, 4, 154, 0, 6, 21, 5, 172, 42, 21, 4, 28, 29, 3, 182, 1, 111]
abbrev dktX4_fades_1 : List UInt8 := dkwX4_fades_1 ++ dktX4_fades_2
def dkwX4_fades_0 : List UInt8 := [42, 27, 28, 29, 182, 1, 142, 154, 0, 5, 2, 172, 42, 27, 182, 1, 136, 54, 4, 3, 54, 5, 21, 5]
abbrev dktX4_fades_0 : List UInt8 := dkwX4_fades_0 ++ dktX4_fades_1
theorem dksX4_fades_0 : cX4_fades.data.toList.drop 0 = dktX4_fades_0 := by decide +kernel
theorem dksX4_fades_1 : cX4_fades.data.toList.drop 24 = dktX4_fades_1 := dk_seg dksX4_fades_0 24 rfl rfl
theorem dksX4_fades_2 : cX4_fades.data.toList.drop 47 = dktX4_fades_2 := dk_seg dksX4_fades_1 23 rfl rfl
theorem dX4_fades_0 : decode cX4_fades 0 = .ok (.aload_n 0, 1) := dk_42 (dk_at dksX4_fades_0 0 rfl rfl)
theorem dX4_fades_1 : decode cX4_fades 1 = .ok (.iload_n 1, 1) := dk_27 (dk_at dksX4_fades_0 1 rfl rfl)
theorem dX4_fades_2 : decode cX4_fades 2 = .ok (.iload_n 2, 1) := dk_28 (dk_at dksX4_fades_0 2 rfl rfl)
theorem dX4_fades_3 : decode cX4_fades 3 = .ok (.iload_n 3, 1) := dk_29 (dk_at dksX4_fades_0 3 rfl rfl)
theorem dX4_fades_4 : decode cX4_fades 4 = .ok (.invokevirtual 398, 3) := dk_182 1 142 (dk_at dksX4_fades_0 4 rfl rfl)
theorem dX4_fades_7 : decode cX4_fades 7 = .ok (.ifCond .ne 5, 3) := dk_154 0 5 (dk_at dksX4_fades_0 7 rfl rfl)
theorem dX4_fades_10 : decode cX4_fades 10 = .ok (.iconst (-1), 1) := dk_2 (dk_at dksX4_fades_0 10 rfl rfl)
theorem dX4_fades_11 : decode cX4_fades 11 = .ok (.ireturn, 1) := dk_172 (dk_at dksX4_fades_0 11 rfl rfl)
theorem dX4_fades_12 : decode cX4_fades 12 = .ok (.aload_n 0, 1) := dk_42 (dk_at dksX4_fades_0 12 rfl rfl)
theorem dX4_fades_13 : decode cX4_fades 13 = .ok (.iload_n 1, 1) := dk_27 (dk_at dksX4_fades_0 13 rfl rfl)
theorem dX4_fades_14 : decode cX4_fades 14 = .ok (.invokevirtual 392, 3) := dk_182 1 136 (dk_at dksX4_fades_0 14 rfl rfl)
theorem dX4_fades_17 : decode cX4_fades 17 = .ok (.istore 4, 2) := dk_54 4 (dk_at dksX4_fades_0 17 rfl rfl)
theorem dX4_fades_19 : decode cX4_fades 19 = .ok (.iconst 0, 1) := dk_3 (dk_at dksX4_fades_0 19 rfl rfl)
theorem dX4_fades_20 : decode cX4_fades 20 = .ok (.istore 5, 2) := dk_54 5 (dk_at dksX4_fades_0 20 rfl rfl)
theorem dX4_fades_22 : decode cX4_fades 22 = .ok (.iload 5, 2) := dk_21 5 (dk_at dksX4_fades_0 22 rfl rfl)
theorem dX4_fades_24 : decode cX4_fades 24 = .ok (.sipush 4096, 3) := dk_17 16 0 (dk_at dksX4_fades_1 0 rfl rfl)
theorem dX4_fades_27 : decode cX4_fades 27 = .ok (.if_icmp .gt 28, 3) := dk_163 0 28 (dk_at dksX4_fades_1 3 rfl rfl)
theorem dX4_fades_30 : decode cX4_fades 30 = .ok (.iload 4, 2) := dk_21 4 (dk_at dksX4_fades_1 6 rfl rfl)
theorem dX4_fades_32 : decode cX4_fades 32 = .ok (.ifCond .ne 6, 3) := dk_154 0 6 (dk_at dksX4_fades_1 8 rfl rfl)
theorem dX4_fades_35 : decode cX4_fades 35 = .ok (.iload 5, 2) := dk_21 5 (dk_at dksX4_fades_1 11 rfl rfl)
theorem dX4_fades_37 : decode cX4_fades 37 = .ok (.ireturn, 1) := dk_172 (dk_at dksX4_fades_1 13 rfl rfl)
theorem dX4_fades_38 : decode cX4_fades 38 = .ok (.aload_n 0, 1) := dk_42 (dk_at dksX4_fades_1 14 rfl rfl)
theorem dX4_fades_39 : decode cX4_fades 39 = .ok (.iload 4, 2) := dk_21 4 (dk_at dksX4_fades_1 15 rfl rfl)
theorem dX4_fades_41 : decode cX4_fades 41 = .ok (.iload_n 2, 1) := dk_28 (dk_at dksX4_fades_1 17 rfl rfl)
theorem dX4_fades_42 : decode cX4_fades 42 = .ok (.iload_n 3, 1) := dk_29 (dk_at dksX4_fades_1 18 rfl rfl)
theorem dX4_fades_43 : decode cX4_fades 43 = .ok (.iconst 0, 1) := dk_3 (dk_at dksX4_fades_1 19 rfl rfl)
theorem dX4_fades_44 : decode cX4_fades 44 = .ok (.invokevirtual 367, 3) := dk_182 1 111 (dk_at dksX4_fades_1 20 rfl rfl)
theorem dX4_fades_47 : decode cX4_fades 47 = .ok (.istore 4, 2) := dk_54 4 (dk_at dksX4_fades_2 0 rfl rfl)
theorem dX4_fades_49 : decode cX4_fades 49 = .ok (.iinc 5 1, 3) := dk_132 5 1 (dk_at dksX4_fades_2 2 rfl rfl)
theorem dX4_fades_52 : decode cX4_fades 52 = .ok (.goto (-30), 3) := dk_167 255 226 (dk_at dksX4_fades_2 5 rfl rfl)
theorem dX4_fades_55 : decode cX4_fades 55 = .ok (.iconst (-1), 1) := dk_2 (dk_at dksX4_fades_2 8 rfl rfl)
theorem dX4_fades_56 : decode cX4_fades 56 = .ok (.ireturn, 1) := dk_172 (dk_at dksX4_fades_2 9 rfl rfl)
abbrev cX4_kin : ByteArray := prog_27_method_70_code
def yX4_kin : MethodName := ⟨RX4, "kin", "(III)I"⟩
def dkwX4_kin_2 : List UInt8 := [182, 1, 130, 42, 28, 182, 1, 130, 96, 5, 42, 21, 4, 182, 1, 130, 104, 100, 172]
abbrev dktX4_kin_2 : List UInt8 := dkwX4_kin_2 ++ []
def dkwX4_kin_1 : List UInt8 := [154, 0, 5, 2, 172, 42, 27, 28, 182, 1, 148, 54, 4, 29, 154, 0, 8, 21, 4, 167, 0, 23, 42, 27]
abbrev dktX4_kin_1 : List UInt8 := dkwX4_kin_1 ++ dktX4_kin_2
def dkwX4_kin_0 : List UInt8 := [42, 27, 182, 1, 127, 153, 0, 20, 42, 28, 182, 1, 127, 153, 0, 12, 29, 3, 4, 184, 1, 89]
abbrev dktX4_kin_0 : List UInt8 := dkwX4_kin_0 ++ dktX4_kin_1
theorem dksX4_kin_0 : cX4_kin.data.toList.drop 0 = dktX4_kin_0 := by decide +kernel
theorem dksX4_kin_1 : cX4_kin.data.toList.drop 22 = dktX4_kin_1 := dk_seg dksX4_kin_0 22 rfl rfl
theorem dksX4_kin_2 : cX4_kin.data.toList.drop 46 = dktX4_kin_2 := dk_seg dksX4_kin_1 24 rfl rfl
theorem dX4_kin_0 : decode cX4_kin 0 = .ok (.aload_n 0, 1) := dk_42 (dk_at dksX4_kin_0 0 rfl rfl)
theorem dX4_kin_1 : decode cX4_kin 1 = .ok (.iload_n 1, 1) := dk_27 (dk_at dksX4_kin_0 1 rfl rfl)
theorem dX4_kin_2 : decode cX4_kin 2 = .ok (.invokevirtual 383, 3) := dk_182 1 127 (dk_at dksX4_kin_0 2 rfl rfl)
theorem dX4_kin_5 : decode cX4_kin 5 = .ok (.ifCond .eq 20, 3) := dk_153 0 20 (dk_at dksX4_kin_0 5 rfl rfl)
theorem dX4_kin_8 : decode cX4_kin 8 = .ok (.aload_n 0, 1) := dk_42 (dk_at dksX4_kin_0 8 rfl rfl)
theorem dX4_kin_9 : decode cX4_kin 9 = .ok (.iload_n 2, 1) := dk_28 (dk_at dksX4_kin_0 9 rfl rfl)
theorem dX4_kin_10 : decode cX4_kin 10 = .ok (.invokevirtual 383, 3) := dk_182 1 127 (dk_at dksX4_kin_0 10 rfl rfl)
theorem dX4_kin_13 : decode cX4_kin 13 = .ok (.ifCond .eq 12, 3) := dk_153 0 12 (dk_at dksX4_kin_0 13 rfl rfl)
theorem dX4_kin_16 : decode cX4_kin 16 = .ok (.iload_n 3, 1) := dk_29 (dk_at dksX4_kin_0 16 rfl rfl)
theorem dX4_kin_17 : decode cX4_kin 17 = .ok (.iconst 0, 1) := dk_3 (dk_at dksX4_kin_0 17 rfl rfl)
theorem dX4_kin_18 : decode cX4_kin 18 = .ok (.iconst 1, 1) := dk_4 (dk_at dksX4_kin_0 18 rfl rfl)
theorem dX4_kin_19 : decode cX4_kin 19 = .ok (.invokestatic 345, 3) := dk_184 1 89 (dk_at dksX4_kin_0 19 rfl rfl)
theorem dX4_kin_22 : decode cX4_kin 22 = .ok (.ifCond .ne 5, 3) := dk_154 0 5 (dk_at dksX4_kin_1 0 rfl rfl)
theorem dX4_kin_25 : decode cX4_kin 25 = .ok (.iconst (-1), 1) := dk_2 (dk_at dksX4_kin_1 3 rfl rfl)
theorem dX4_kin_26 : decode cX4_kin 26 = .ok (.ireturn, 1) := dk_172 (dk_at dksX4_kin_1 4 rfl rfl)
theorem dX4_kin_27 : decode cX4_kin 27 = .ok (.aload_n 0, 1) := dk_42 (dk_at dksX4_kin_1 5 rfl rfl)
theorem dX4_kin_28 : decode cX4_kin 28 = .ok (.iload_n 1, 1) := dk_27 (dk_at dksX4_kin_1 6 rfl rfl)
theorem dX4_kin_29 : decode cX4_kin 29 = .ok (.iload_n 2, 1) := dk_28 (dk_at dksX4_kin_1 7 rfl rfl)
theorem dX4_kin_30 : decode cX4_kin 30 = .ok (.invokevirtual 404, 3) := dk_182 1 148 (dk_at dksX4_kin_1 8 rfl rfl)
theorem dX4_kin_33 : decode cX4_kin 33 = .ok (.istore 4, 2) := dk_54 4 (dk_at dksX4_kin_1 11 rfl rfl)
theorem dX4_kin_35 : decode cX4_kin 35 = .ok (.iload_n 3, 1) := dk_29 (dk_at dksX4_kin_1 13 rfl rfl)
theorem dX4_kin_36 : decode cX4_kin 36 = .ok (.ifCond .ne 8, 3) := dk_154 0 8 (dk_at dksX4_kin_1 14 rfl rfl)
theorem dX4_kin_39 : decode cX4_kin 39 = .ok (.iload 4, 2) := dk_21 4 (dk_at dksX4_kin_1 17 rfl rfl)
theorem dX4_kin_41 : decode cX4_kin 41 = .ok (.goto 23, 3) := dk_167 0 23 (dk_at dksX4_kin_1 19 rfl rfl)
theorem dX4_kin_44 : decode cX4_kin 44 = .ok (.aload_n 0, 1) := dk_42 (dk_at dksX4_kin_1 22 rfl rfl)
theorem dX4_kin_45 : decode cX4_kin 45 = .ok (.iload_n 1, 1) := dk_27 (dk_at dksX4_kin_1 23 rfl rfl)
theorem dX4_kin_46 : decode cX4_kin 46 = .ok (.invokevirtual 386, 3) := dk_182 1 130 (dk_at dksX4_kin_2 0 rfl rfl)
theorem dX4_kin_49 : decode cX4_kin 49 = .ok (.aload_n 0, 1) := dk_42 (dk_at dksX4_kin_2 3 rfl rfl)
theorem dX4_kin_50 : decode cX4_kin 50 = .ok (.iload_n 2, 1) := dk_28 (dk_at dksX4_kin_2 4 rfl rfl)
theorem dX4_kin_51 : decode cX4_kin 51 = .ok (.invokevirtual 386, 3) := dk_182 1 130 (dk_at dksX4_kin_2 5 rfl rfl)
theorem dX4_kin_54 : decode cX4_kin 54 = .ok (.iadd, 1) := dk_96 (dk_at dksX4_kin_2 8 rfl rfl)
theorem dX4_kin_55 : decode cX4_kin 55 = .ok (.iconst 2, 1) := dk_5 (dk_at dksX4_kin_2 9 rfl rfl)
theorem dX4_kin_56 : decode cX4_kin 56 = .ok (.aload_n 0, 1) := dk_42 (dk_at dksX4_kin_2 10 rfl rfl)
theorem dX4_kin_57 : decode cX4_kin 57 = .ok (.iload 4, 2) := dk_21 4 (dk_at dksX4_kin_2 11 rfl rfl)
theorem dX4_kin_59 : decode cX4_kin 59 = .ok (.invokevirtual 386, 3) := dk_182 1 130 (dk_at dksX4_kin_2 13 rfl rfl)
theorem dX4_kin_62 : decode cX4_kin 62 = .ok (.imul, 1) := dk_104 (dk_at dksX4_kin_2 16 rfl rfl)
theorem dX4_kin_63 : decode cX4_kin 63 = .ok (.isub, 1) := dk_100 (dk_at dksX4_kin_2 17 rfl rfl)
theorem dX4_kin_64 : decode cX4_kin 64 = .ok (.ireturn, 1) := dk_172 (dk_at dksX4_kin_2 18 rfl rfl)
abbrev cX4_kinOf : ByteArray := prog_27_method_69_code
def yX4_kinOf : MethodName := ⟨RX4, "kinOf", "(II)I"⟩
def dkwX4_kinOf_2 : List UInt8 := [172]
abbrev dktX4_kinOf_2 : List UInt8 := dkwX4_kinOf_2 ++ []
def dkwX4_kinOf_1 : List UInt8 := [4, 96, 46, 62, 167, 255, 233, 42, 180, 0, 77, 7, 21, 4, 104, 4, 96, 46, 54, 4, 167, 255, 217, 29]
abbrev dktX4_kinOf_1 : List UInt8 := dkwX4_kinOf_1 ++ dktX4_kinOf_2
def dkwX4_kinOf_0 : List UInt8 := [27, 62, 28, 54, 4, 29, 21, 4, 159, 0, 39, 29, 21, 4, 164, 0, 17, 42, 180, 0, 77, 7, 29, 104]
abbrev dktX4_kinOf_0 : List UInt8 := dkwX4_kinOf_0 ++ dktX4_kinOf_1
theorem dksX4_kinOf_0 : cX4_kinOf.data.toList.drop 0 = dktX4_kinOf_0 := by decide +kernel
theorem dksX4_kinOf_1 : cX4_kinOf.data.toList.drop 24 = dktX4_kinOf_1 := dk_seg dksX4_kinOf_0 24 rfl rfl
theorem dksX4_kinOf_2 : cX4_kinOf.data.toList.drop 48 = dktX4_kinOf_2 := dk_seg dksX4_kinOf_1 24 rfl rfl
theorem dX4_kinOf_0 : decode cX4_kinOf 0 = .ok (.iload_n 1, 1) := dk_27 (dk_at dksX4_kinOf_0 0 rfl rfl)
theorem dX4_kinOf_1 : decode cX4_kinOf 1 = .ok (.istore_n 3, 1) := dk_62 (dk_at dksX4_kinOf_0 1 rfl rfl)
theorem dX4_kinOf_2 : decode cX4_kinOf 2 = .ok (.iload_n 2, 1) := dk_28 (dk_at dksX4_kinOf_0 2 rfl rfl)
theorem dX4_kinOf_3 : decode cX4_kinOf 3 = .ok (.istore 4, 2) := dk_54 4 (dk_at dksX4_kinOf_0 3 rfl rfl)
theorem dX4_kinOf_5 : decode cX4_kinOf 5 = .ok (.iload_n 3, 1) := dk_29 (dk_at dksX4_kinOf_0 5 rfl rfl)
theorem dX4_kinOf_6 : decode cX4_kinOf 6 = .ok (.iload 4, 2) := dk_21 4 (dk_at dksX4_kinOf_0 6 rfl rfl)
theorem dX4_kinOf_8 : decode cX4_kinOf 8 = .ok (.if_icmp .eq 39, 3) := dk_159 0 39 (dk_at dksX4_kinOf_0 8 rfl rfl)
theorem dX4_kinOf_11 : decode cX4_kinOf 11 = .ok (.iload_n 3, 1) := dk_29 (dk_at dksX4_kinOf_0 11 rfl rfl)
theorem dX4_kinOf_12 : decode cX4_kinOf 12 = .ok (.iload 4, 2) := dk_21 4 (dk_at dksX4_kinOf_0 12 rfl rfl)
theorem dX4_kinOf_14 : decode cX4_kinOf 14 = .ok (.if_icmp .le 17, 3) := dk_164 0 17 (dk_at dksX4_kinOf_0 14 rfl rfl)
theorem dX4_kinOf_17 : decode cX4_kinOf 17 = .ok (.aload_n 0, 1) := dk_42 (dk_at dksX4_kinOf_0 17 rfl rfl)
theorem dX4_kinOf_18 : decode cX4_kinOf 18 = .ok (.getfield 77, 3) := dk_180 0 77 (dk_at dksX4_kinOf_0 18 rfl rfl)
theorem dX4_kinOf_21 : decode cX4_kinOf 21 = .ok (.iconst 4, 1) := dk_7 (dk_at dksX4_kinOf_0 21 rfl rfl)
theorem dX4_kinOf_22 : decode cX4_kinOf 22 = .ok (.iload_n 3, 1) := dk_29 (dk_at dksX4_kinOf_0 22 rfl rfl)
theorem dX4_kinOf_23 : decode cX4_kinOf 23 = .ok (.imul, 1) := dk_104 (dk_at dksX4_kinOf_0 23 rfl rfl)
theorem dX4_kinOf_24 : decode cX4_kinOf 24 = .ok (.iconst 1, 1) := dk_4 (dk_at dksX4_kinOf_1 0 rfl rfl)
theorem dX4_kinOf_25 : decode cX4_kinOf 25 = .ok (.iadd, 1) := dk_96 (dk_at dksX4_kinOf_1 1 rfl rfl)
theorem dX4_kinOf_26 : decode cX4_kinOf 26 = .ok (.iaload, 1) := dk_46 (dk_at dksX4_kinOf_1 2 rfl rfl)
theorem dX4_kinOf_27 : decode cX4_kinOf 27 = .ok (.istore_n 3, 1) := dk_62 (dk_at dksX4_kinOf_1 3 rfl rfl)
theorem dX4_kinOf_28 : decode cX4_kinOf 28 = .ok (.goto (-23), 3) := dk_167 255 233 (dk_at dksX4_kinOf_1 4 rfl rfl)
theorem dX4_kinOf_31 : decode cX4_kinOf 31 = .ok (.aload_n 0, 1) := dk_42 (dk_at dksX4_kinOf_1 7 rfl rfl)
theorem dX4_kinOf_32 : decode cX4_kinOf 32 = .ok (.getfield 77, 3) := dk_180 0 77 (dk_at dksX4_kinOf_1 8 rfl rfl)
theorem dX4_kinOf_35 : decode cX4_kinOf 35 = .ok (.iconst 4, 1) := dk_7 (dk_at dksX4_kinOf_1 11 rfl rfl)
theorem dX4_kinOf_36 : decode cX4_kinOf 36 = .ok (.iload 4, 2) := dk_21 4 (dk_at dksX4_kinOf_1 12 rfl rfl)
theorem dX4_kinOf_38 : decode cX4_kinOf 38 = .ok (.imul, 1) := dk_104 (dk_at dksX4_kinOf_1 14 rfl rfl)
theorem dX4_kinOf_39 : decode cX4_kinOf 39 = .ok (.iconst 1, 1) := dk_4 (dk_at dksX4_kinOf_1 15 rfl rfl)
theorem dX4_kinOf_40 : decode cX4_kinOf 40 = .ok (.iadd, 1) := dk_96 (dk_at dksX4_kinOf_1 16 rfl rfl)
theorem dX4_kinOf_41 : decode cX4_kinOf 41 = .ok (.iaload, 1) := dk_46 (dk_at dksX4_kinOf_1 17 rfl rfl)
theorem dX4_kinOf_42 : decode cX4_kinOf 42 = .ok (.istore 4, 2) := dk_54 4 (dk_at dksX4_kinOf_1 18 rfl rfl)
theorem dX4_kinOf_44 : decode cX4_kinOf 44 = .ok (.goto (-39), 3) := dk_167 255 217 (dk_at dksX4_kinOf_1 20 rfl rfl)
theorem dX4_kinOf_47 : decode cX4_kinOf 47 = .ok (.iload_n 3, 1) := dk_29 (dk_at dksX4_kinOf_1 23 rfl rfl)
theorem dX4_kinOf_48 : decode cX4_kinOf 48 = .ok (.ireturn, 1) := dk_172 (dk_at dksX4_kinOf_2 0 rfl rfl)
abbrev cX4_thumb : ByteArray := prog_27_method_71_code
def yX4_thumb : MethodName := ⟨RX4, "thumb", "(II)I"⟩
def dkwX4_thumb_4 : List UInt8 := [21, 5, 62, 167, 255, 201, 2, 172]
abbrev dktX4_thumb_4 : List UInt8 := dkwX4_thumb_4 ++ []
def dkwX4_thumb_3 : List UInt8 := [21, 5, 182, 1, 136, 21, 4, 122, 4, 126, 154, 0, 14, 42, 180, 0, 77, 7, 29, 104, 5, 96, 46, 172]
abbrev dktX4_thumb_3 : List UInt8 := dkwX4_thumb_3 ++ dktX4_thumb_4
def dkwX4_thumb_2 : List UInt8 := [180, 0, 77, 7, 29, 104, 4, 96, 46, 54, 5, 42, 182, 1, 86, 4, 100, 21, 4, 100, 54, 4, 42]
abbrev dktX4_thumb_2 : List UInt8 := dkwX4_thumb_2 ++ dktX4_thumb_3
def dkwX4_thumb_1 : List UInt8 := [182, 1, 136, 28, 122, 4, 126, 154, 0, 6, 16, 254, 172, 27, 62, 28, 54, 4, 29, 158, 0, 57, 42]
abbrev dktX4_thumb_1 : List UInt8 := dkwX4_thumb_1 ++ dktX4_thumb_2
def dkwX4_thumb_0 : List UInt8 := [42, 27, 182, 1, 127, 153, 0, 29, 28, 3, 42, 182, 1, 86, 4, 100, 184, 1, 89, 153, 0, 15, 42, 27]
abbrev dktX4_thumb_0 : List UInt8 := dkwX4_thumb_0 ++ dktX4_thumb_1
theorem dksX4_thumb_0 : cX4_thumb.data.toList.drop 0 = dktX4_thumb_0 := by decide +kernel
theorem dksX4_thumb_1 : cX4_thumb.data.toList.drop 24 = dktX4_thumb_1 := dk_seg dksX4_thumb_0 24 rfl rfl
theorem dksX4_thumb_2 : cX4_thumb.data.toList.drop 47 = dktX4_thumb_2 := dk_seg dksX4_thumb_1 23 rfl rfl
theorem dksX4_thumb_3 : cX4_thumb.data.toList.drop 70 = dktX4_thumb_3 := dk_seg dksX4_thumb_2 23 rfl rfl
theorem dksX4_thumb_4 : cX4_thumb.data.toList.drop 94 = dktX4_thumb_4 := dk_seg dksX4_thumb_3 24 rfl rfl
theorem dX4_thumb_0 : decode cX4_thumb 0 = .ok (.aload_n 0, 1) := dk_42 (dk_at dksX4_thumb_0 0 rfl rfl)
theorem dX4_thumb_1 : decode cX4_thumb 1 = .ok (.iload_n 1, 1) := dk_27 (dk_at dksX4_thumb_0 1 rfl rfl)
theorem dX4_thumb_2 : decode cX4_thumb 2 = .ok (.invokevirtual 383, 3) := dk_182 1 127 (dk_at dksX4_thumb_0 2 rfl rfl)
theorem dX4_thumb_5 : decode cX4_thumb 5 = .ok (.ifCond .eq 29, 3) := dk_153 0 29 (dk_at dksX4_thumb_0 5 rfl rfl)
theorem dX4_thumb_8 : decode cX4_thumb 8 = .ok (.iload_n 2, 1) := dk_28 (dk_at dksX4_thumb_0 8 rfl rfl)
theorem dX4_thumb_9 : decode cX4_thumb 9 = .ok (.iconst 0, 1) := dk_3 (dk_at dksX4_thumb_0 9 rfl rfl)
theorem dX4_thumb_10 : decode cX4_thumb 10 = .ok (.aload_n 0, 1) := dk_42 (dk_at dksX4_thumb_0 10 rfl rfl)
theorem dX4_thumb_11 : decode cX4_thumb 11 = .ok (.invokevirtual 342, 3) := dk_182 1 86 (dk_at dksX4_thumb_0 11 rfl rfl)
theorem dX4_thumb_14 : decode cX4_thumb 14 = .ok (.iconst 1, 1) := dk_4 (dk_at dksX4_thumb_0 14 rfl rfl)
theorem dX4_thumb_15 : decode cX4_thumb 15 = .ok (.isub, 1) := dk_100 (dk_at dksX4_thumb_0 15 rfl rfl)
theorem dX4_thumb_16 : decode cX4_thumb 16 = .ok (.invokestatic 345, 3) := dk_184 1 89 (dk_at dksX4_thumb_0 16 rfl rfl)
theorem dX4_thumb_19 : decode cX4_thumb 19 = .ok (.ifCond .eq 15, 3) := dk_153 0 15 (dk_at dksX4_thumb_0 19 rfl rfl)
theorem dX4_thumb_22 : decode cX4_thumb 22 = .ok (.aload_n 0, 1) := dk_42 (dk_at dksX4_thumb_0 22 rfl rfl)
theorem dX4_thumb_23 : decode cX4_thumb 23 = .ok (.iload_n 1, 1) := dk_27 (dk_at dksX4_thumb_0 23 rfl rfl)
theorem dX4_thumb_24 : decode cX4_thumb 24 = .ok (.invokevirtual 392, 3) := dk_182 1 136 (dk_at dksX4_thumb_1 0 rfl rfl)
theorem dX4_thumb_27 : decode cX4_thumb 27 = .ok (.iload_n 2, 1) := dk_28 (dk_at dksX4_thumb_1 3 rfl rfl)
theorem dX4_thumb_28 : decode cX4_thumb 28 = .ok (.ishr, 1) := dk_122 (dk_at dksX4_thumb_1 4 rfl rfl)
theorem dX4_thumb_29 : decode cX4_thumb 29 = .ok (.iconst 1, 1) := dk_4 (dk_at dksX4_thumb_1 5 rfl rfl)
theorem dX4_thumb_30 : decode cX4_thumb 30 = .ok (.iand, 1) := dk_126 (dk_at dksX4_thumb_1 6 rfl rfl)
theorem dX4_thumb_31 : decode cX4_thumb 31 = .ok (.ifCond .ne 6, 3) := dk_154 0 6 (dk_at dksX4_thumb_1 7 rfl rfl)
theorem dX4_thumb_34 : decode cX4_thumb 34 = .ok (.bipush (-2), 2) := dk_16 254 (dk_at dksX4_thumb_1 10 rfl rfl)
theorem dX4_thumb_36 : decode cX4_thumb 36 = .ok (.ireturn, 1) := dk_172 (dk_at dksX4_thumb_1 12 rfl rfl)
theorem dX4_thumb_37 : decode cX4_thumb 37 = .ok (.iload_n 1, 1) := dk_27 (dk_at dksX4_thumb_1 13 rfl rfl)
theorem dX4_thumb_38 : decode cX4_thumb 38 = .ok (.istore_n 3, 1) := dk_62 (dk_at dksX4_thumb_1 14 rfl rfl)
theorem dX4_thumb_39 : decode cX4_thumb 39 = .ok (.iload_n 2, 1) := dk_28 (dk_at dksX4_thumb_1 15 rfl rfl)
theorem dX4_thumb_40 : decode cX4_thumb 40 = .ok (.istore 4, 2) := dk_54 4 (dk_at dksX4_thumb_1 16 rfl rfl)
theorem dX4_thumb_42 : decode cX4_thumb 42 = .ok (.iload_n 3, 1) := dk_29 (dk_at dksX4_thumb_1 18 rfl rfl)
theorem dX4_thumb_43 : decode cX4_thumb 43 = .ok (.ifCond .le 57, 3) := dk_158 0 57 (dk_at dksX4_thumb_1 19 rfl rfl)
theorem dX4_thumb_46 : decode cX4_thumb 46 = .ok (.aload_n 0, 1) := dk_42 (dk_at dksX4_thumb_1 22 rfl rfl)
theorem dX4_thumb_47 : decode cX4_thumb 47 = .ok (.getfield 77, 3) := dk_180 0 77 (dk_at dksX4_thumb_2 0 rfl rfl)
theorem dX4_thumb_50 : decode cX4_thumb 50 = .ok (.iconst 4, 1) := dk_7 (dk_at dksX4_thumb_2 3 rfl rfl)
theorem dX4_thumb_51 : decode cX4_thumb 51 = .ok (.iload_n 3, 1) := dk_29 (dk_at dksX4_thumb_2 4 rfl rfl)
theorem dX4_thumb_52 : decode cX4_thumb 52 = .ok (.imul, 1) := dk_104 (dk_at dksX4_thumb_2 5 rfl rfl)
theorem dX4_thumb_53 : decode cX4_thumb 53 = .ok (.iconst 1, 1) := dk_4 (dk_at dksX4_thumb_2 6 rfl rfl)
theorem dX4_thumb_54 : decode cX4_thumb 54 = .ok (.iadd, 1) := dk_96 (dk_at dksX4_thumb_2 7 rfl rfl)
theorem dX4_thumb_55 : decode cX4_thumb 55 = .ok (.iaload, 1) := dk_46 (dk_at dksX4_thumb_2 8 rfl rfl)
theorem dX4_thumb_56 : decode cX4_thumb 56 = .ok (.istore 5, 2) := dk_54 5 (dk_at dksX4_thumb_2 9 rfl rfl)
theorem dX4_thumb_58 : decode cX4_thumb 58 = .ok (.aload_n 0, 1) := dk_42 (dk_at dksX4_thumb_2 11 rfl rfl)
theorem dX4_thumb_59 : decode cX4_thumb 59 = .ok (.invokevirtual 342, 3) := dk_182 1 86 (dk_at dksX4_thumb_2 12 rfl rfl)
theorem dX4_thumb_62 : decode cX4_thumb 62 = .ok (.iconst 1, 1) := dk_4 (dk_at dksX4_thumb_2 15 rfl rfl)
theorem dX4_thumb_63 : decode cX4_thumb 63 = .ok (.isub, 1) := dk_100 (dk_at dksX4_thumb_2 16 rfl rfl)
theorem dX4_thumb_64 : decode cX4_thumb 64 = .ok (.iload 4, 2) := dk_21 4 (dk_at dksX4_thumb_2 17 rfl rfl)
theorem dX4_thumb_66 : decode cX4_thumb 66 = .ok (.isub, 1) := dk_100 (dk_at dksX4_thumb_2 19 rfl rfl)
theorem dX4_thumb_67 : decode cX4_thumb 67 = .ok (.istore 4, 2) := dk_54 4 (dk_at dksX4_thumb_2 20 rfl rfl)
theorem dX4_thumb_69 : decode cX4_thumb 69 = .ok (.aload_n 0, 1) := dk_42 (dk_at dksX4_thumb_2 22 rfl rfl)
theorem dX4_thumb_70 : decode cX4_thumb 70 = .ok (.iload 5, 2) := dk_21 5 (dk_at dksX4_thumb_3 0 rfl rfl)
theorem dX4_thumb_72 : decode cX4_thumb 72 = .ok (.invokevirtual 392, 3) := dk_182 1 136 (dk_at dksX4_thumb_3 2 rfl rfl)
theorem dX4_thumb_75 : decode cX4_thumb 75 = .ok (.iload 4, 2) := dk_21 4 (dk_at dksX4_thumb_3 5 rfl rfl)
theorem dX4_thumb_77 : decode cX4_thumb 77 = .ok (.ishr, 1) := dk_122 (dk_at dksX4_thumb_3 7 rfl rfl)
theorem dX4_thumb_78 : decode cX4_thumb 78 = .ok (.iconst 1, 1) := dk_4 (dk_at dksX4_thumb_3 8 rfl rfl)
theorem dX4_thumb_79 : decode cX4_thumb 79 = .ok (.iand, 1) := dk_126 (dk_at dksX4_thumb_3 9 rfl rfl)
theorem dX4_thumb_80 : decode cX4_thumb 80 = .ok (.ifCond .ne 14, 3) := dk_154 0 14 (dk_at dksX4_thumb_3 10 rfl rfl)
theorem dX4_thumb_83 : decode cX4_thumb 83 = .ok (.aload_n 0, 1) := dk_42 (dk_at dksX4_thumb_3 13 rfl rfl)
theorem dX4_thumb_84 : decode cX4_thumb 84 = .ok (.getfield 77, 3) := dk_180 0 77 (dk_at dksX4_thumb_3 14 rfl rfl)
theorem dX4_thumb_87 : decode cX4_thumb 87 = .ok (.iconst 4, 1) := dk_7 (dk_at dksX4_thumb_3 17 rfl rfl)
theorem dX4_thumb_88 : decode cX4_thumb 88 = .ok (.iload_n 3, 1) := dk_29 (dk_at dksX4_thumb_3 18 rfl rfl)
theorem dX4_thumb_89 : decode cX4_thumb 89 = .ok (.imul, 1) := dk_104 (dk_at dksX4_thumb_3 19 rfl rfl)
theorem dX4_thumb_90 : decode cX4_thumb 90 = .ok (.iconst 2, 1) := dk_5 (dk_at dksX4_thumb_3 20 rfl rfl)
theorem dX4_thumb_91 : decode cX4_thumb 91 = .ok (.iadd, 1) := dk_96 (dk_at dksX4_thumb_3 21 rfl rfl)
theorem dX4_thumb_92 : decode cX4_thumb 92 = .ok (.iaload, 1) := dk_46 (dk_at dksX4_thumb_3 22 rfl rfl)
theorem dX4_thumb_93 : decode cX4_thumb 93 = .ok (.ireturn, 1) := dk_172 (dk_at dksX4_thumb_3 23 rfl rfl)
theorem dX4_thumb_94 : decode cX4_thumb 94 = .ok (.iload 5, 2) := dk_21 5 (dk_at dksX4_thumb_4 0 rfl rfl)
theorem dX4_thumb_96 : decode cX4_thumb 96 = .ok (.istore_n 3, 1) := dk_62 (dk_at dksX4_thumb_4 2 rfl rfl)
theorem dX4_thumb_97 : decode cX4_thumb 97 = .ok (.goto (-55), 3) := dk_167 255 201 (dk_at dksX4_thumb_4 3 rfl rfl)
theorem dX4_thumb_100 : decode cX4_thumb 100 = .ok (.iconst (-1), 1) := dk_2 (dk_at dksX4_thumb_4 6 rfl rfl)
theorem dX4_thumb_101 : decode cX4_thumb 101 = .ok (.ireturn, 1) := dk_172 (dk_at dksX4_thumb_4 7 rfl rfl)
abbrev cX4_share : ByteArray := prog_27_method_73_code
def yX4_share : MethodName := ⟨RX4, "share", "(III)I"⟩
def dkwX4_share_1 : List UInt8 := [184, 1, 89, 154, 0, 5, 2, 172, 42, 27, 28, 182, 1, 151, 42, 180, 0, 86, 29, 46, 172]
abbrev dktX4_share_1 : List UInt8 := dkwX4_share_1 ++ []
def dkwX4_share_0 : List UInt8 := [42, 27, 182, 1, 102, 153, 0, 23, 28, 4, 7, 184, 1, 89, 153, 0, 14, 29, 3, 28, 4, 100]
abbrev dktX4_share_0 : List UInt8 := dkwX4_share_0 ++ dktX4_share_1
theorem dksX4_share_0 : cX4_share.data.toList.drop 0 = dktX4_share_0 := by decide +kernel
theorem dksX4_share_1 : cX4_share.data.toList.drop 22 = dktX4_share_1 := dk_seg dksX4_share_0 22 rfl rfl
theorem dX4_share_0 : decode cX4_share 0 = .ok (.aload_n 0, 1) := dk_42 (dk_at dksX4_share_0 0 rfl rfl)
theorem dX4_share_1 : decode cX4_share 1 = .ok (.iload_n 1, 1) := dk_27 (dk_at dksX4_share_0 1 rfl rfl)
theorem dX4_share_2 : decode cX4_share 2 = .ok (.invokevirtual 358, 3) := dk_182 1 102 (dk_at dksX4_share_0 2 rfl rfl)
theorem dX4_share_5 : decode cX4_share 5 = .ok (.ifCond .eq 23, 3) := dk_153 0 23 (dk_at dksX4_share_0 5 rfl rfl)
theorem dX4_share_8 : decode cX4_share 8 = .ok (.iload_n 2, 1) := dk_28 (dk_at dksX4_share_0 8 rfl rfl)
theorem dX4_share_9 : decode cX4_share 9 = .ok (.iconst 1, 1) := dk_4 (dk_at dksX4_share_0 9 rfl rfl)
theorem dX4_share_10 : decode cX4_share 10 = .ok (.iconst 4, 1) := dk_7 (dk_at dksX4_share_0 10 rfl rfl)
theorem dX4_share_11 : decode cX4_share 11 = .ok (.invokestatic 345, 3) := dk_184 1 89 (dk_at dksX4_share_0 11 rfl rfl)
theorem dX4_share_14 : decode cX4_share 14 = .ok (.ifCond .eq 14, 3) := dk_153 0 14 (dk_at dksX4_share_0 14 rfl rfl)
theorem dX4_share_17 : decode cX4_share 17 = .ok (.iload_n 3, 1) := dk_29 (dk_at dksX4_share_0 17 rfl rfl)
theorem dX4_share_18 : decode cX4_share 18 = .ok (.iconst 0, 1) := dk_3 (dk_at dksX4_share_0 18 rfl rfl)
theorem dX4_share_19 : decode cX4_share 19 = .ok (.iload_n 2, 1) := dk_28 (dk_at dksX4_share_0 19 rfl rfl)
theorem dX4_share_20 : decode cX4_share 20 = .ok (.iconst 1, 1) := dk_4 (dk_at dksX4_share_0 20 rfl rfl)
theorem dX4_share_21 : decode cX4_share 21 = .ok (.isub, 1) := dk_100 (dk_at dksX4_share_0 21 rfl rfl)
theorem dX4_share_22 : decode cX4_share 22 = .ok (.invokestatic 345, 3) := dk_184 1 89 (dk_at dksX4_share_1 0 rfl rfl)
theorem dX4_share_25 : decode cX4_share 25 = .ok (.ifCond .ne 5, 3) := dk_154 0 5 (dk_at dksX4_share_1 3 rfl rfl)
theorem dX4_share_28 : decode cX4_share 28 = .ok (.iconst (-1), 1) := dk_2 (dk_at dksX4_share_1 6 rfl rfl)
theorem dX4_share_29 : decode cX4_share 29 = .ok (.ireturn, 1) := dk_172 (dk_at dksX4_share_1 7 rfl rfl)
theorem dX4_share_30 : decode cX4_share 30 = .ok (.aload_n 0, 1) := dk_42 (dk_at dksX4_share_1 8 rfl rfl)
theorem dX4_share_31 : decode cX4_share 31 = .ok (.iload_n 1, 1) := dk_27 (dk_at dksX4_share_1 9 rfl rfl)
theorem dX4_share_32 : decode cX4_share 32 = .ok (.iload_n 2, 1) := dk_28 (dk_at dksX4_share_1 10 rfl rfl)
theorem dX4_share_33 : decode cX4_share 33 = .ok (.invokevirtual 407, 3) := dk_182 1 151 (dk_at dksX4_share_1 11 rfl rfl)
theorem dX4_share_36 : decode cX4_share 36 = .ok (.aload_n 0, 1) := dk_42 (dk_at dksX4_share_1 14 rfl rfl)
theorem dX4_share_37 : decode cX4_share 37 = .ok (.getfield 86, 3) := dk_180 0 86 (dk_at dksX4_share_1 15 rfl rfl)
theorem dX4_share_40 : decode cX4_share 40 = .ok (.iload_n 3, 1) := dk_29 (dk_at dksX4_share_1 18 rfl rfl)
theorem dX4_share_41 : decode cX4_share 41 = .ok (.iaload, 1) := dk_46 (dk_at dksX4_share_1 19 rfl rfl)
theorem dX4_share_42 : decode cX4_share 42 = .ok (.ireturn, 1) := dk_172 (dk_at dksX4_share_1 20 rfl rfl)
abbrev cX4_layShares : ByteArray := prog_27_method_72_code
def yX4_layShares : MethodName := ⟨RX4, "layShares", "(II)V"⟩
def dkwX4_layShares_8 : List UInt8 := [42, 180, 0, 89, 21, 5, 2, 79, 132, 4, 255, 167, 255, 190, 177]
abbrev dktX4_layShares_8 : List UInt8 := dkwX4_layShares_8 ++ []
def dkwX4_layShares_7 : List UInt8 := [164, 0, 7, 21, 6, 54, 5, 132, 6, 1, 167, 255, 226, 42, 180, 0, 86, 21, 5, 92, 46, 4, 96, 79]
abbrev dktX4_layShares_7 : List UInt8 := dkwX4_layShares_7 ++ dktX4_layShares_8
def dkwX4_layShares_6 : List UInt8 := [54, 6, 21, 6, 28, 162, 0, 30, 42, 180, 0, 89, 21, 6, 46, 42, 180, 0, 89, 21, 5, 46]
abbrev dktX4_layShares_6 : List UInt8 := dkwX4_layShares_6 ++ dktX4_layShares_7
def dkwX4_layShares_5 : List UInt8 := [100, 54, 4, 132, 5, 1, 167, 255, 145, 29, 154, 0, 4, 177, 21, 4, 158, 0, 67, 3, 54, 5, 4]
abbrev dktX4_layShares_5 : List UInt8 := dkwX4_layShares_5 ++ dktX4_layShares_6
def dkwX4_layShares_4 : List UInt8 := [154, 0, 7, 3, 167, 0, 10, 16, 100, 21, 6, 104, 29, 112, 79, 21, 4, 42, 180, 0, 86, 21, 5, 46]
abbrev dktX4_layShares_4 : List UInt8 := dkwX4_layShares_4 ++ dktX4_layShares_5
def dkwX4_layShares_3 : List UInt8 := [154, 0, 7, 3, 167, 0, 10, 16, 100, 21, 6, 104, 29, 108, 79, 42, 180, 0, 89, 21, 5, 29]
abbrev dktX4_layShares_3 : List UInt8 := dkwX4_layShares_3 ++ dktX4_layShares_4
def dkwX4_layShares_2 : List UInt8 := [21, 6, 27, 21, 7, 122, 4, 126, 96, 54, 6, 132, 7, 1, 167, 255, 219, 42, 180, 0, 86, 21, 5, 29]
abbrev dktX4_layShares_2 : List UInt8 := dkwX4_layShares_2 ++ dktX4_layShares_3
def dkwX4_layShares_1 : List UInt8 := [21, 7, 42, 182, 1, 86, 162, 0, 34, 21, 7, 28, 104, 42, 182, 1, 86, 108, 21, 5, 160, 0, 14]
abbrev dktX4_layShares_1 : List UInt8 := dkwX4_layShares_1 ++ dktX4_layShares_2
def dkwX4_layShares_0 : List UInt8 := [27, 184, 1, 96, 62, 16, 100, 54, 4, 3, 54, 5, 21, 5, 28, 162, 0, 111, 3, 54, 6, 3, 54, 7]
abbrev dktX4_layShares_0 : List UInt8 := dkwX4_layShares_0 ++ dktX4_layShares_1
theorem dksX4_layShares_0 : cX4_layShares.data.toList.drop 0 = dktX4_layShares_0 := by decide +kernel
theorem dksX4_layShares_1 : cX4_layShares.data.toList.drop 24 = dktX4_layShares_1 := dk_seg dksX4_layShares_0 24 rfl rfl
theorem dksX4_layShares_2 : cX4_layShares.data.toList.drop 47 = dktX4_layShares_2 := dk_seg dksX4_layShares_1 23 rfl rfl
theorem dksX4_layShares_3 : cX4_layShares.data.toList.drop 71 = dktX4_layShares_3 := dk_seg dksX4_layShares_2 24 rfl rfl
theorem dksX4_layShares_4 : cX4_layShares.data.toList.drop 93 = dktX4_layShares_4 := dk_seg dksX4_layShares_3 22 rfl rfl
theorem dksX4_layShares_5 : cX4_layShares.data.toList.drop 117 = dktX4_layShares_5 := dk_seg dksX4_layShares_4 24 rfl rfl
theorem dksX4_layShares_6 : cX4_layShares.data.toList.drop 140 = dktX4_layShares_6 := dk_seg dksX4_layShares_5 23 rfl rfl
theorem dksX4_layShares_7 : cX4_layShares.data.toList.drop 162 = dktX4_layShares_7 := dk_seg dksX4_layShares_6 22 rfl rfl
theorem dksX4_layShares_8 : cX4_layShares.data.toList.drop 186 = dktX4_layShares_8 := dk_seg dksX4_layShares_7 24 rfl rfl
theorem dX4_layShares_0 : decode cX4_layShares 0 = .ok (.iload_n 1, 1) := dk_27 (dk_at dksX4_layShares_0 0 rfl rfl)
theorem dX4_layShares_1 : decode cX4_layShares 1 = .ok (.invokestatic 352, 3) := dk_184 1 96 (dk_at dksX4_layShares_0 1 rfl rfl)
theorem dX4_layShares_4 : decode cX4_layShares 4 = .ok (.istore_n 3, 1) := dk_62 (dk_at dksX4_layShares_0 4 rfl rfl)
theorem dX4_layShares_5 : decode cX4_layShares 5 = .ok (.bipush 100, 2) := dk_16 100 (dk_at dksX4_layShares_0 5 rfl rfl)
theorem dX4_layShares_7 : decode cX4_layShares 7 = .ok (.istore 4, 2) := dk_54 4 (dk_at dksX4_layShares_0 7 rfl rfl)
theorem dX4_layShares_9 : decode cX4_layShares 9 = .ok (.iconst 0, 1) := dk_3 (dk_at dksX4_layShares_0 9 rfl rfl)
theorem dX4_layShares_10 : decode cX4_layShares 10 = .ok (.istore 5, 2) := dk_54 5 (dk_at dksX4_layShares_0 10 rfl rfl)
theorem dX4_layShares_12 : decode cX4_layShares 12 = .ok (.iload 5, 2) := dk_21 5 (dk_at dksX4_layShares_0 12 rfl rfl)
theorem dX4_layShares_14 : decode cX4_layShares 14 = .ok (.iload_n 2, 1) := dk_28 (dk_at dksX4_layShares_0 14 rfl rfl)
theorem dX4_layShares_15 : decode cX4_layShares 15 = .ok (.if_icmp .ge 111, 3) := dk_162 0 111 (dk_at dksX4_layShares_0 15 rfl rfl)
theorem dX4_layShares_18 : decode cX4_layShares 18 = .ok (.iconst 0, 1) := dk_3 (dk_at dksX4_layShares_0 18 rfl rfl)
theorem dX4_layShares_19 : decode cX4_layShares 19 = .ok (.istore 6, 2) := dk_54 6 (dk_at dksX4_layShares_0 19 rfl rfl)
theorem dX4_layShares_21 : decode cX4_layShares 21 = .ok (.iconst 0, 1) := dk_3 (dk_at dksX4_layShares_0 21 rfl rfl)
theorem dX4_layShares_22 : decode cX4_layShares 22 = .ok (.istore 7, 2) := dk_54 7 (dk_at dksX4_layShares_0 22 rfl rfl)
theorem dX4_layShares_24 : decode cX4_layShares 24 = .ok (.iload 7, 2) := dk_21 7 (dk_at dksX4_layShares_1 0 rfl rfl)
theorem dX4_layShares_26 : decode cX4_layShares 26 = .ok (.aload_n 0, 1) := dk_42 (dk_at dksX4_layShares_1 2 rfl rfl)
theorem dX4_layShares_27 : decode cX4_layShares 27 = .ok (.invokevirtual 342, 3) := dk_182 1 86 (dk_at dksX4_layShares_1 3 rfl rfl)
theorem dX4_layShares_30 : decode cX4_layShares 30 = .ok (.if_icmp .ge 34, 3) := dk_162 0 34 (dk_at dksX4_layShares_1 6 rfl rfl)
theorem dX4_layShares_33 : decode cX4_layShares 33 = .ok (.iload 7, 2) := dk_21 7 (dk_at dksX4_layShares_1 9 rfl rfl)
theorem dX4_layShares_35 : decode cX4_layShares 35 = .ok (.iload_n 2, 1) := dk_28 (dk_at dksX4_layShares_1 11 rfl rfl)
theorem dX4_layShares_36 : decode cX4_layShares 36 = .ok (.imul, 1) := dk_104 (dk_at dksX4_layShares_1 12 rfl rfl)
theorem dX4_layShares_37 : decode cX4_layShares 37 = .ok (.aload_n 0, 1) := dk_42 (dk_at dksX4_layShares_1 13 rfl rfl)
theorem dX4_layShares_38 : decode cX4_layShares 38 = .ok (.invokevirtual 342, 3) := dk_182 1 86 (dk_at dksX4_layShares_1 14 rfl rfl)
theorem dX4_layShares_41 : decode cX4_layShares 41 = .ok (.idiv, 1) := dk_108 (dk_at dksX4_layShares_1 17 rfl rfl)
theorem dX4_layShares_42 : decode cX4_layShares 42 = .ok (.iload 5, 2) := dk_21 5 (dk_at dksX4_layShares_1 18 rfl rfl)
theorem dX4_layShares_44 : decode cX4_layShares 44 = .ok (.if_icmp .ne 14, 3) := dk_160 0 14 (dk_at dksX4_layShares_1 20 rfl rfl)
theorem dX4_layShares_47 : decode cX4_layShares 47 = .ok (.iload 6, 2) := dk_21 6 (dk_at dksX4_layShares_2 0 rfl rfl)
theorem dX4_layShares_49 : decode cX4_layShares 49 = .ok (.iload_n 1, 1) := dk_27 (dk_at dksX4_layShares_2 2 rfl rfl)
theorem dX4_layShares_50 : decode cX4_layShares 50 = .ok (.iload 7, 2) := dk_21 7 (dk_at dksX4_layShares_2 3 rfl rfl)
theorem dX4_layShares_52 : decode cX4_layShares 52 = .ok (.ishr, 1) := dk_122 (dk_at dksX4_layShares_2 5 rfl rfl)
theorem dX4_layShares_53 : decode cX4_layShares 53 = .ok (.iconst 1, 1) := dk_4 (dk_at dksX4_layShares_2 6 rfl rfl)
theorem dX4_layShares_54 : decode cX4_layShares 54 = .ok (.iand, 1) := dk_126 (dk_at dksX4_layShares_2 7 rfl rfl)
theorem dX4_layShares_55 : decode cX4_layShares 55 = .ok (.iadd, 1) := dk_96 (dk_at dksX4_layShares_2 8 rfl rfl)
theorem dX4_layShares_56 : decode cX4_layShares 56 = .ok (.istore 6, 2) := dk_54 6 (dk_at dksX4_layShares_2 9 rfl rfl)
theorem dX4_layShares_58 : decode cX4_layShares 58 = .ok (.iinc 7 1, 3) := dk_132 7 1 (dk_at dksX4_layShares_2 11 rfl rfl)
theorem dX4_layShares_61 : decode cX4_layShares 61 = .ok (.goto (-37), 3) := dk_167 255 219 (dk_at dksX4_layShares_2 14 rfl rfl)
theorem dX4_layShares_64 : decode cX4_layShares 64 = .ok (.aload_n 0, 1) := dk_42 (dk_at dksX4_layShares_2 17 rfl rfl)
theorem dX4_layShares_65 : decode cX4_layShares 65 = .ok (.getfield 86, 3) := dk_180 0 86 (dk_at dksX4_layShares_2 18 rfl rfl)
theorem dX4_layShares_68 : decode cX4_layShares 68 = .ok (.iload 5, 2) := dk_21 5 (dk_at dksX4_layShares_2 21 rfl rfl)
theorem dX4_layShares_70 : decode cX4_layShares 70 = .ok (.iload_n 3, 1) := dk_29 (dk_at dksX4_layShares_2 23 rfl rfl)
theorem dX4_layShares_71 : decode cX4_layShares 71 = .ok (.ifCond .ne 7, 3) := dk_154 0 7 (dk_at dksX4_layShares_3 0 rfl rfl)
theorem dX4_layShares_74 : decode cX4_layShares 74 = .ok (.iconst 0, 1) := dk_3 (dk_at dksX4_layShares_3 3 rfl rfl)
theorem dX4_layShares_75 : decode cX4_layShares 75 = .ok (.goto 10, 3) := dk_167 0 10 (dk_at dksX4_layShares_3 4 rfl rfl)
theorem dX4_layShares_78 : decode cX4_layShares 78 = .ok (.bipush 100, 2) := dk_16 100 (dk_at dksX4_layShares_3 7 rfl rfl)
theorem dX4_layShares_80 : decode cX4_layShares 80 = .ok (.iload 6, 2) := dk_21 6 (dk_at dksX4_layShares_3 9 rfl rfl)
theorem dX4_layShares_82 : decode cX4_layShares 82 = .ok (.imul, 1) := dk_104 (dk_at dksX4_layShares_3 11 rfl rfl)
theorem dX4_layShares_83 : decode cX4_layShares 83 = .ok (.iload_n 3, 1) := dk_29 (dk_at dksX4_layShares_3 12 rfl rfl)
theorem dX4_layShares_84 : decode cX4_layShares 84 = .ok (.idiv, 1) := dk_108 (dk_at dksX4_layShares_3 13 rfl rfl)
theorem dX4_layShares_85 : decode cX4_layShares 85 = .ok (.iastore, 1) := dk_79 (dk_at dksX4_layShares_3 14 rfl rfl)
theorem dX4_layShares_86 : decode cX4_layShares 86 = .ok (.aload_n 0, 1) := dk_42 (dk_at dksX4_layShares_3 15 rfl rfl)
theorem dX4_layShares_87 : decode cX4_layShares 87 = .ok (.getfield 89, 3) := dk_180 0 89 (dk_at dksX4_layShares_3 16 rfl rfl)
theorem dX4_layShares_90 : decode cX4_layShares 90 = .ok (.iload 5, 2) := dk_21 5 (dk_at dksX4_layShares_3 19 rfl rfl)
theorem dX4_layShares_92 : decode cX4_layShares 92 = .ok (.iload_n 3, 1) := dk_29 (dk_at dksX4_layShares_3 21 rfl rfl)
theorem dX4_layShares_93 : decode cX4_layShares 93 = .ok (.ifCond .ne 7, 3) := dk_154 0 7 (dk_at dksX4_layShares_4 0 rfl rfl)
theorem dX4_layShares_96 : decode cX4_layShares 96 = .ok (.iconst 0, 1) := dk_3 (dk_at dksX4_layShares_4 3 rfl rfl)
theorem dX4_layShares_97 : decode cX4_layShares 97 = .ok (.goto 10, 3) := dk_167 0 10 (dk_at dksX4_layShares_4 4 rfl rfl)
theorem dX4_layShares_100 : decode cX4_layShares 100 = .ok (.bipush 100, 2) := dk_16 100 (dk_at dksX4_layShares_4 7 rfl rfl)
theorem dX4_layShares_102 : decode cX4_layShares 102 = .ok (.iload 6, 2) := dk_21 6 (dk_at dksX4_layShares_4 9 rfl rfl)
theorem dX4_layShares_104 : decode cX4_layShares 104 = .ok (.imul, 1) := dk_104 (dk_at dksX4_layShares_4 11 rfl rfl)
theorem dX4_layShares_105 : decode cX4_layShares 105 = .ok (.iload_n 3, 1) := dk_29 (dk_at dksX4_layShares_4 12 rfl rfl)
theorem dX4_layShares_106 : decode cX4_layShares 106 = .ok (.irem, 1) := dk_112 (dk_at dksX4_layShares_4 13 rfl rfl)
theorem dX4_layShares_107 : decode cX4_layShares 107 = .ok (.iastore, 1) := dk_79 (dk_at dksX4_layShares_4 14 rfl rfl)
theorem dX4_layShares_108 : decode cX4_layShares 108 = .ok (.iload 4, 2) := dk_21 4 (dk_at dksX4_layShares_4 15 rfl rfl)
theorem dX4_layShares_110 : decode cX4_layShares 110 = .ok (.aload_n 0, 1) := dk_42 (dk_at dksX4_layShares_4 17 rfl rfl)
theorem dX4_layShares_111 : decode cX4_layShares 111 = .ok (.getfield 86, 3) := dk_180 0 86 (dk_at dksX4_layShares_4 18 rfl rfl)
theorem dX4_layShares_114 : decode cX4_layShares 114 = .ok (.iload 5, 2) := dk_21 5 (dk_at dksX4_layShares_4 21 rfl rfl)
theorem dX4_layShares_116 : decode cX4_layShares 116 = .ok (.iaload, 1) := dk_46 (dk_at dksX4_layShares_4 23 rfl rfl)
theorem dX4_layShares_117 : decode cX4_layShares 117 = .ok (.isub, 1) := dk_100 (dk_at dksX4_layShares_5 0 rfl rfl)
theorem dX4_layShares_118 : decode cX4_layShares 118 = .ok (.istore 4, 2) := dk_54 4 (dk_at dksX4_layShares_5 1 rfl rfl)
theorem dX4_layShares_120 : decode cX4_layShares 120 = .ok (.iinc 5 1, 3) := dk_132 5 1 (dk_at dksX4_layShares_5 3 rfl rfl)
theorem dX4_layShares_123 : decode cX4_layShares 123 = .ok (.goto (-111), 3) := dk_167 255 145 (dk_at dksX4_layShares_5 6 rfl rfl)
theorem dX4_layShares_126 : decode cX4_layShares 126 = .ok (.iload_n 3, 1) := dk_29 (dk_at dksX4_layShares_5 9 rfl rfl)
theorem dX4_layShares_127 : decode cX4_layShares 127 = .ok (.ifCond .ne 4, 3) := dk_154 0 4 (dk_at dksX4_layShares_5 10 rfl rfl)
theorem dX4_layShares_130 : decode cX4_layShares 130 = .ok (.return_, 1) := dk_177 (dk_at dksX4_layShares_5 13 rfl rfl)
theorem dX4_layShares_131 : decode cX4_layShares 131 = .ok (.iload 4, 2) := dk_21 4 (dk_at dksX4_layShares_5 14 rfl rfl)
theorem dX4_layShares_133 : decode cX4_layShares 133 = .ok (.ifCond .le 67, 3) := dk_158 0 67 (dk_at dksX4_layShares_5 16 rfl rfl)
theorem dX4_layShares_136 : decode cX4_layShares 136 = .ok (.iconst 0, 1) := dk_3 (dk_at dksX4_layShares_5 19 rfl rfl)
theorem dX4_layShares_137 : decode cX4_layShares 137 = .ok (.istore 5, 2) := dk_54 5 (dk_at dksX4_layShares_5 20 rfl rfl)
theorem dX4_layShares_139 : decode cX4_layShares 139 = .ok (.iconst 1, 1) := dk_4 (dk_at dksX4_layShares_5 22 rfl rfl)
theorem dX4_layShares_140 : decode cX4_layShares 140 = .ok (.istore 6, 2) := dk_54 6 (dk_at dksX4_layShares_6 0 rfl rfl)
theorem dX4_layShares_142 : decode cX4_layShares 142 = .ok (.iload 6, 2) := dk_21 6 (dk_at dksX4_layShares_6 2 rfl rfl)
theorem dX4_layShares_144 : decode cX4_layShares 144 = .ok (.iload_n 2, 1) := dk_28 (dk_at dksX4_layShares_6 4 rfl rfl)
theorem dX4_layShares_145 : decode cX4_layShares 145 = .ok (.if_icmp .ge 30, 3) := dk_162 0 30 (dk_at dksX4_layShares_6 5 rfl rfl)
theorem dX4_layShares_148 : decode cX4_layShares 148 = .ok (.aload_n 0, 1) := dk_42 (dk_at dksX4_layShares_6 8 rfl rfl)
theorem dX4_layShares_149 : decode cX4_layShares 149 = .ok (.getfield 89, 3) := dk_180 0 89 (dk_at dksX4_layShares_6 9 rfl rfl)
theorem dX4_layShares_152 : decode cX4_layShares 152 = .ok (.iload 6, 2) := dk_21 6 (dk_at dksX4_layShares_6 12 rfl rfl)
theorem dX4_layShares_154 : decode cX4_layShares 154 = .ok (.iaload, 1) := dk_46 (dk_at dksX4_layShares_6 14 rfl rfl)
theorem dX4_layShares_155 : decode cX4_layShares 155 = .ok (.aload_n 0, 1) := dk_42 (dk_at dksX4_layShares_6 15 rfl rfl)
theorem dX4_layShares_156 : decode cX4_layShares 156 = .ok (.getfield 89, 3) := dk_180 0 89 (dk_at dksX4_layShares_6 16 rfl rfl)
theorem dX4_layShares_159 : decode cX4_layShares 159 = .ok (.iload 5, 2) := dk_21 5 (dk_at dksX4_layShares_6 19 rfl rfl)
theorem dX4_layShares_161 : decode cX4_layShares 161 = .ok (.iaload, 1) := dk_46 (dk_at dksX4_layShares_6 21 rfl rfl)
theorem dX4_layShares_162 : decode cX4_layShares 162 = .ok (.if_icmp .le 7, 3) := dk_164 0 7 (dk_at dksX4_layShares_7 0 rfl rfl)
theorem dX4_layShares_165 : decode cX4_layShares 165 = .ok (.iload 6, 2) := dk_21 6 (dk_at dksX4_layShares_7 3 rfl rfl)
theorem dX4_layShares_167 : decode cX4_layShares 167 = .ok (.istore 5, 2) := dk_54 5 (dk_at dksX4_layShares_7 5 rfl rfl)
theorem dX4_layShares_169 : decode cX4_layShares 169 = .ok (.iinc 6 1, 3) := dk_132 6 1 (dk_at dksX4_layShares_7 7 rfl rfl)
theorem dX4_layShares_172 : decode cX4_layShares 172 = .ok (.goto (-30), 3) := dk_167 255 226 (dk_at dksX4_layShares_7 10 rfl rfl)
theorem dX4_layShares_175 : decode cX4_layShares 175 = .ok (.aload_n 0, 1) := dk_42 (dk_at dksX4_layShares_7 13 rfl rfl)
theorem dX4_layShares_176 : decode cX4_layShares 176 = .ok (.getfield 86, 3) := dk_180 0 86 (dk_at dksX4_layShares_7 14 rfl rfl)
theorem dX4_layShares_179 : decode cX4_layShares 179 = .ok (.iload 5, 2) := dk_21 5 (dk_at dksX4_layShares_7 17 rfl rfl)
theorem dX4_layShares_181 : decode cX4_layShares 181 = .ok (.dup2, 1) := dk_92 (dk_at dksX4_layShares_7 19 rfl rfl)
theorem dX4_layShares_182 : decode cX4_layShares 182 = .ok (.iaload, 1) := dk_46 (dk_at dksX4_layShares_7 20 rfl rfl)
theorem dX4_layShares_183 : decode cX4_layShares 183 = .ok (.iconst 1, 1) := dk_4 (dk_at dksX4_layShares_7 21 rfl rfl)
theorem dX4_layShares_184 : decode cX4_layShares 184 = .ok (.iadd, 1) := dk_96 (dk_at dksX4_layShares_7 22 rfl rfl)
theorem dX4_layShares_185 : decode cX4_layShares 185 = .ok (.iastore, 1) := dk_79 (dk_at dksX4_layShares_7 23 rfl rfl)
theorem dX4_layShares_186 : decode cX4_layShares 186 = .ok (.aload_n 0, 1) := dk_42 (dk_at dksX4_layShares_8 0 rfl rfl)
theorem dX4_layShares_187 : decode cX4_layShares 187 = .ok (.getfield 89, 3) := dk_180 0 89 (dk_at dksX4_layShares_8 1 rfl rfl)
theorem dX4_layShares_190 : decode cX4_layShares 190 = .ok (.iload 5, 2) := dk_21 5 (dk_at dksX4_layShares_8 4 rfl rfl)
theorem dX4_layShares_192 : decode cX4_layShares 192 = .ok (.iconst (-1), 1) := dk_2 (dk_at dksX4_layShares_8 6 rfl rfl)
theorem dX4_layShares_193 : decode cX4_layShares 193 = .ok (.iastore, 1) := dk_79 (dk_at dksX4_layShares_8 7 rfl rfl)
theorem dX4_layShares_194 : decode cX4_layShares 194 = .ok (.iinc 4 (-1), 3) := dk_132 4 255 (dk_at dksX4_layShares_8 8 rfl rfl)
theorem dX4_layShares_197 : decode cX4_layShares 197 = .ok (.goto (-66), 3) := dk_167 255 190 (dk_at dksX4_layShares_8 11 rfl rfl)
theorem dX4_layShares_200 : decode cX4_layShares 200 = .ok (.return_, 1) := dk_177 (dk_at dksX4_layShares_8 14 rfl rfl)
abbrev cX4_lies : ByteArray := prog_27_method_74_code
def yX4_lies : MethodName := ⟨RX4, "lies", "(I)I"⟩
def dkwX4_lies_1 : List UInt8 := [16, 254, 172]
abbrev dktX4_lies_1 : List UInt8 := dkwX4_lies_1 ++ []
def dkwX4_lies_0 : List UInt8 := [27, 3, 42, 180, 1, 124, 4, 100, 184, 1, 89, 153, 0, 12, 42, 180, 0, 92, 27, 46, 167, 0, 5]
abbrev dktX4_lies_0 : List UInt8 := dkwX4_lies_0 ++ dktX4_lies_1
theorem dksX4_lies_0 : cX4_lies.data.toList.drop 0 = dktX4_lies_0 := by decide +kernel
theorem dksX4_lies_1 : cX4_lies.data.toList.drop 23 = dktX4_lies_1 := dk_seg dksX4_lies_0 23 rfl rfl
theorem dX4_lies_0 : decode cX4_lies 0 = .ok (.iload_n 1, 1) := dk_27 (dk_at dksX4_lies_0 0 rfl rfl)
theorem dX4_lies_1 : decode cX4_lies 1 = .ok (.iconst 0, 1) := dk_3 (dk_at dksX4_lies_0 1 rfl rfl)
theorem dX4_lies_2 : decode cX4_lies 2 = .ok (.aload_n 0, 1) := dk_42 (dk_at dksX4_lies_0 2 rfl rfl)
theorem dX4_lies_3 : decode cX4_lies 3 = .ok (.getfield 380, 3) := dk_180 1 124 (dk_at dksX4_lies_0 3 rfl rfl)
theorem dX4_lies_6 : decode cX4_lies 6 = .ok (.iconst 1, 1) := dk_4 (dk_at dksX4_lies_0 6 rfl rfl)
theorem dX4_lies_7 : decode cX4_lies 7 = .ok (.isub, 1) := dk_100 (dk_at dksX4_lies_0 7 rfl rfl)
theorem dX4_lies_8 : decode cX4_lies 8 = .ok (.invokestatic 345, 3) := dk_184 1 89 (dk_at dksX4_lies_0 8 rfl rfl)
theorem dX4_lies_11 : decode cX4_lies 11 = .ok (.ifCond .eq 12, 3) := dk_153 0 12 (dk_at dksX4_lies_0 11 rfl rfl)
theorem dX4_lies_14 : decode cX4_lies 14 = .ok (.aload_n 0, 1) := dk_42 (dk_at dksX4_lies_0 14 rfl rfl)
theorem dX4_lies_15 : decode cX4_lies 15 = .ok (.getfield 92, 3) := dk_180 0 92 (dk_at dksX4_lies_0 15 rfl rfl)
theorem dX4_lies_18 : decode cX4_lies 18 = .ok (.iload_n 1, 1) := dk_27 (dk_at dksX4_lies_0 18 rfl rfl)
theorem dX4_lies_19 : decode cX4_lies 19 = .ok (.iaload, 1) := dk_46 (dk_at dksX4_lies_0 19 rfl rfl)
theorem dX4_lies_20 : decode cX4_lies 20 = .ok (.goto 5, 3) := dk_167 0 5 (dk_at dksX4_lies_0 20 rfl rfl)
theorem dX4_lies_23 : decode cX4_lies 23 = .ok (.bipush (-2), 2) := dk_16 254 (dk_at dksX4_lies_1 0 rfl rfl)
theorem dX4_lies_25 : decode cX4_lies 25 = .ok (.ireturn, 1) := dk_172 (dk_at dksX4_lies_1 2 rfl rfl)
abbrev cX4_tell : ByteArray := prog_27_method_76_code
def yX4_tell : MethodName := ⟨RX4, "tell", "()I"⟩
def dkwX4_tell_4 : List UInt8 := [167, 255, 214, 42, 180, 1, 124, 172]
abbrev dktX4_tell_4 : List UInt8 := dkwX4_tell_4 ++ []
def dkwX4_tell_3 : List UInt8 := [42, 180, 0, 92, 42, 180, 1, 124, 28, 79, 42, 89, 180, 1, 124, 4, 96, 181, 1, 124, 132, 2, 1]
abbrev dktX4_tell_3 : List UInt8 := dkwX4_tell_3 ++ dktX4_tell_4
def dkwX4_tell_2 : List UInt8 := [181, 1, 124, 3, 61, 28, 42, 182, 1, 86, 162, 0, 40, 27, 28, 122, 4, 126, 154, 0, 6, 167, 0, 23]
abbrev dktX4_tell_2 : List UInt8 := dkwX4_tell_2 ++ dktX4_tell_3
def dkwX4_tell_1 : List UInt8 := [184, 1, 96, 162, 0, 13, 42, 28, 182, 1, 154, 153, 0, 5, 28, 60, 132, 2, 1, 167, 255, 218, 42, 3]
abbrev dktX4_tell_1 : List UInt8 := dkwX4_tell_1 ++ dktX4_tell_2
def dkwX4_tell_0 : List UInt8 := [2, 60, 3, 61, 28, 4, 42, 182, 1, 86, 120, 162, 0, 34, 27, 155, 0, 14, 28, 184, 1, 96, 27]
abbrev dktX4_tell_0 : List UInt8 := dkwX4_tell_0 ++ dktX4_tell_1
theorem dksX4_tell_0 : cX4_tell.data.toList.drop 0 = dktX4_tell_0 := by decide +kernel
theorem dksX4_tell_1 : cX4_tell.data.toList.drop 23 = dktX4_tell_1 := dk_seg dksX4_tell_0 23 rfl rfl
theorem dksX4_tell_2 : cX4_tell.data.toList.drop 47 = dktX4_tell_2 := dk_seg dksX4_tell_1 24 rfl rfl
theorem dksX4_tell_3 : cX4_tell.data.toList.drop 71 = dktX4_tell_3 := dk_seg dksX4_tell_2 24 rfl rfl
theorem dksX4_tell_4 : cX4_tell.data.toList.drop 94 = dktX4_tell_4 := dk_seg dksX4_tell_3 23 rfl rfl
theorem dX4_tell_0 : decode cX4_tell 0 = .ok (.iconst (-1), 1) := dk_2 (dk_at dksX4_tell_0 0 rfl rfl)
theorem dX4_tell_1 : decode cX4_tell 1 = .ok (.istore_n 1, 1) := dk_60 (dk_at dksX4_tell_0 1 rfl rfl)
theorem dX4_tell_2 : decode cX4_tell 2 = .ok (.iconst 0, 1) := dk_3 (dk_at dksX4_tell_0 2 rfl rfl)
theorem dX4_tell_3 : decode cX4_tell 3 = .ok (.istore_n 2, 1) := dk_61 (dk_at dksX4_tell_0 3 rfl rfl)
theorem dX4_tell_4 : decode cX4_tell 4 = .ok (.iload_n 2, 1) := dk_28 (dk_at dksX4_tell_0 4 rfl rfl)
theorem dX4_tell_5 : decode cX4_tell 5 = .ok (.iconst 1, 1) := dk_4 (dk_at dksX4_tell_0 5 rfl rfl)
theorem dX4_tell_6 : decode cX4_tell 6 = .ok (.aload_n 0, 1) := dk_42 (dk_at dksX4_tell_0 6 rfl rfl)
theorem dX4_tell_7 : decode cX4_tell 7 = .ok (.invokevirtual 342, 3) := dk_182 1 86 (dk_at dksX4_tell_0 7 rfl rfl)
theorem dX4_tell_10 : decode cX4_tell 10 = .ok (.ishl, 1) := dk_120 (dk_at dksX4_tell_0 10 rfl rfl)
theorem dX4_tell_11 : decode cX4_tell 11 = .ok (.if_icmp .ge 34, 3) := dk_162 0 34 (dk_at dksX4_tell_0 11 rfl rfl)
theorem dX4_tell_14 : decode cX4_tell 14 = .ok (.iload_n 1, 1) := dk_27 (dk_at dksX4_tell_0 14 rfl rfl)
theorem dX4_tell_15 : decode cX4_tell 15 = .ok (.ifCond .lt 14, 3) := dk_155 0 14 (dk_at dksX4_tell_0 15 rfl rfl)
theorem dX4_tell_18 : decode cX4_tell 18 = .ok (.iload_n 2, 1) := dk_28 (dk_at dksX4_tell_0 18 rfl rfl)
theorem dX4_tell_19 : decode cX4_tell 19 = .ok (.invokestatic 352, 3) := dk_184 1 96 (dk_at dksX4_tell_0 19 rfl rfl)
theorem dX4_tell_22 : decode cX4_tell 22 = .ok (.iload_n 1, 1) := dk_27 (dk_at dksX4_tell_0 22 rfl rfl)
theorem dX4_tell_23 : decode cX4_tell 23 = .ok (.invokestatic 352, 3) := dk_184 1 96 (dk_at dksX4_tell_1 0 rfl rfl)
theorem dX4_tell_26 : decode cX4_tell 26 = .ok (.if_icmp .ge 13, 3) := dk_162 0 13 (dk_at dksX4_tell_1 3 rfl rfl)
theorem dX4_tell_29 : decode cX4_tell 29 = .ok (.aload_n 0, 1) := dk_42 (dk_at dksX4_tell_1 6 rfl rfl)
theorem dX4_tell_30 : decode cX4_tell 30 = .ok (.iload_n 2, 1) := dk_28 (dk_at dksX4_tell_1 7 rfl rfl)
theorem dX4_tell_31 : decode cX4_tell 31 = .ok (.invokevirtual 410, 3) := dk_182 1 154 (dk_at dksX4_tell_1 8 rfl rfl)
theorem dX4_tell_34 : decode cX4_tell 34 = .ok (.ifCond .eq 5, 3) := dk_153 0 5 (dk_at dksX4_tell_1 11 rfl rfl)
theorem dX4_tell_37 : decode cX4_tell 37 = .ok (.iload_n 2, 1) := dk_28 (dk_at dksX4_tell_1 14 rfl rfl)
theorem dX4_tell_38 : decode cX4_tell 38 = .ok (.istore_n 1, 1) := dk_60 (dk_at dksX4_tell_1 15 rfl rfl)
theorem dX4_tell_39 : decode cX4_tell 39 = .ok (.iinc 2 1, 3) := dk_132 2 1 (dk_at dksX4_tell_1 16 rfl rfl)
theorem dX4_tell_42 : decode cX4_tell 42 = .ok (.goto (-38), 3) := dk_167 255 218 (dk_at dksX4_tell_1 19 rfl rfl)
theorem dX4_tell_45 : decode cX4_tell 45 = .ok (.aload_n 0, 1) := dk_42 (dk_at dksX4_tell_1 22 rfl rfl)
theorem dX4_tell_46 : decode cX4_tell 46 = .ok (.iconst 0, 1) := dk_3 (dk_at dksX4_tell_1 23 rfl rfl)
theorem dX4_tell_47 : decode cX4_tell 47 = .ok (.putfield 380, 3) := dk_181 1 124 (dk_at dksX4_tell_2 0 rfl rfl)
theorem dX4_tell_50 : decode cX4_tell 50 = .ok (.iconst 0, 1) := dk_3 (dk_at dksX4_tell_2 3 rfl rfl)
theorem dX4_tell_51 : decode cX4_tell 51 = .ok (.istore_n 2, 1) := dk_61 (dk_at dksX4_tell_2 4 rfl rfl)
theorem dX4_tell_52 : decode cX4_tell 52 = .ok (.iload_n 2, 1) := dk_28 (dk_at dksX4_tell_2 5 rfl rfl)
theorem dX4_tell_53 : decode cX4_tell 53 = .ok (.aload_n 0, 1) := dk_42 (dk_at dksX4_tell_2 6 rfl rfl)
theorem dX4_tell_54 : decode cX4_tell 54 = .ok (.invokevirtual 342, 3) := dk_182 1 86 (dk_at dksX4_tell_2 7 rfl rfl)
theorem dX4_tell_57 : decode cX4_tell 57 = .ok (.if_icmp .ge 40, 3) := dk_162 0 40 (dk_at dksX4_tell_2 10 rfl rfl)
theorem dX4_tell_60 : decode cX4_tell 60 = .ok (.iload_n 1, 1) := dk_27 (dk_at dksX4_tell_2 13 rfl rfl)
theorem dX4_tell_61 : decode cX4_tell 61 = .ok (.iload_n 2, 1) := dk_28 (dk_at dksX4_tell_2 14 rfl rfl)
theorem dX4_tell_62 : decode cX4_tell 62 = .ok (.ishr, 1) := dk_122 (dk_at dksX4_tell_2 15 rfl rfl)
theorem dX4_tell_63 : decode cX4_tell 63 = .ok (.iconst 1, 1) := dk_4 (dk_at dksX4_tell_2 16 rfl rfl)
theorem dX4_tell_64 : decode cX4_tell 64 = .ok (.iand, 1) := dk_126 (dk_at dksX4_tell_2 17 rfl rfl)
theorem dX4_tell_65 : decode cX4_tell 65 = .ok (.ifCond .ne 6, 3) := dk_154 0 6 (dk_at dksX4_tell_2 18 rfl rfl)
theorem dX4_tell_68 : decode cX4_tell 68 = .ok (.goto 23, 3) := dk_167 0 23 (dk_at dksX4_tell_2 21 rfl rfl)
theorem dX4_tell_71 : decode cX4_tell 71 = .ok (.aload_n 0, 1) := dk_42 (dk_at dksX4_tell_3 0 rfl rfl)
theorem dX4_tell_72 : decode cX4_tell 72 = .ok (.getfield 92, 3) := dk_180 0 92 (dk_at dksX4_tell_3 1 rfl rfl)
theorem dX4_tell_75 : decode cX4_tell 75 = .ok (.aload_n 0, 1) := dk_42 (dk_at dksX4_tell_3 4 rfl rfl)
theorem dX4_tell_76 : decode cX4_tell 76 = .ok (.getfield 380, 3) := dk_180 1 124 (dk_at dksX4_tell_3 5 rfl rfl)
theorem dX4_tell_79 : decode cX4_tell 79 = .ok (.iload_n 2, 1) := dk_28 (dk_at dksX4_tell_3 8 rfl rfl)
theorem dX4_tell_80 : decode cX4_tell 80 = .ok (.iastore, 1) := dk_79 (dk_at dksX4_tell_3 9 rfl rfl)
theorem dX4_tell_81 : decode cX4_tell 81 = .ok (.aload_n 0, 1) := dk_42 (dk_at dksX4_tell_3 10 rfl rfl)
theorem dX4_tell_82 : decode cX4_tell 82 = .ok (.dup, 1) := dk_89 (dk_at dksX4_tell_3 11 rfl rfl)
theorem dX4_tell_83 : decode cX4_tell 83 = .ok (.getfield 380, 3) := dk_180 1 124 (dk_at dksX4_tell_3 12 rfl rfl)
theorem dX4_tell_86 : decode cX4_tell 86 = .ok (.iconst 1, 1) := dk_4 (dk_at dksX4_tell_3 15 rfl rfl)
theorem dX4_tell_87 : decode cX4_tell 87 = .ok (.iadd, 1) := dk_96 (dk_at dksX4_tell_3 16 rfl rfl)
theorem dX4_tell_88 : decode cX4_tell 88 = .ok (.putfield 380, 3) := dk_181 1 124 (dk_at dksX4_tell_3 17 rfl rfl)
theorem dX4_tell_91 : decode cX4_tell 91 = .ok (.iinc 2 1, 3) := dk_132 2 1 (dk_at dksX4_tell_3 20 rfl rfl)
theorem dX4_tell_94 : decode cX4_tell 94 = .ok (.goto (-42), 3) := dk_167 255 214 (dk_at dksX4_tell_4 0 rfl rfl)
theorem dX4_tell_97 : decode cX4_tell 97 = .ok (.aload_n 0, 1) := dk_42 (dk_at dksX4_tell_4 3 rfl rfl)
theorem dX4_tell_98 : decode cX4_tell 98 = .ok (.getfield 380, 3) := dk_180 1 124 (dk_at dksX4_tell_4 4 rfl rfl)
theorem dX4_tell_101 : decode cX4_tell 101 = .ok (.ireturn, 1) := dk_172 (dk_at dksX4_tell_4 7 rfl rfl)
abbrev cX4_doTell : ByteArray := prog_27_method_75_code
def yX4_doTell : MethodName := ⟨RX4, "doTell", "(I)Z"⟩
def dkwX4_doTell_2 : List UInt8 := [154, 0, 5, 3, 172, 132, 3, 1, 167, 255, 217, 132, 2, 1, 167, 255, 197, 4, 172]
abbrev dktX4_doTell_2 : List UInt8 := dkwX4_doTell_2 ++ []
def dkwX4_doTell_1 : List UInt8 := [182, 1, 136, 42, 29, 182, 1, 136, 159, 0, 21, 42, 28, 182, 1, 136, 42, 29, 182, 1, 136, 130, 27, 126]
abbrev dktX4_doTell_1 : List UInt8 := dkwX4_doTell_1 ++ dktX4_doTell_2
def dkwX4_doTell_0 : List UInt8 := [3, 61, 28, 42, 180, 0, 77, 17, 0, 216, 46, 162, 0, 53, 3, 62, 29, 28, 162, 0, 40, 42, 28]
abbrev dktX4_doTell_0 : List UInt8 := dkwX4_doTell_0 ++ dktX4_doTell_1
theorem dksX4_doTell_0 : cX4_doTell.data.toList.drop 0 = dktX4_doTell_0 := by decide +kernel
theorem dksX4_doTell_1 : cX4_doTell.data.toList.drop 23 = dktX4_doTell_1 := dk_seg dksX4_doTell_0 23 rfl rfl
theorem dksX4_doTell_2 : cX4_doTell.data.toList.drop 47 = dktX4_doTell_2 := dk_seg dksX4_doTell_1 24 rfl rfl
theorem dX4_doTell_0 : decode cX4_doTell 0 = .ok (.iconst 0, 1) := dk_3 (dk_at dksX4_doTell_0 0 rfl rfl)
theorem dX4_doTell_1 : decode cX4_doTell 1 = .ok (.istore_n 2, 1) := dk_61 (dk_at dksX4_doTell_0 1 rfl rfl)
theorem dX4_doTell_2 : decode cX4_doTell 2 = .ok (.iload_n 2, 1) := dk_28 (dk_at dksX4_doTell_0 2 rfl rfl)
theorem dX4_doTell_3 : decode cX4_doTell 3 = .ok (.aload_n 0, 1) := dk_42 (dk_at dksX4_doTell_0 3 rfl rfl)
theorem dX4_doTell_4 : decode cX4_doTell 4 = .ok (.getfield 77, 3) := dk_180 0 77 (dk_at dksX4_doTell_0 4 rfl rfl)
theorem dX4_doTell_7 : decode cX4_doTell 7 = .ok (.sipush 216, 3) := dk_17 0 216 (dk_at dksX4_doTell_0 7 rfl rfl)
theorem dX4_doTell_10 : decode cX4_doTell 10 = .ok (.iaload, 1) := dk_46 (dk_at dksX4_doTell_0 10 rfl rfl)
theorem dX4_doTell_11 : decode cX4_doTell 11 = .ok (.if_icmp .ge 53, 3) := dk_162 0 53 (dk_at dksX4_doTell_0 11 rfl rfl)
theorem dX4_doTell_14 : decode cX4_doTell 14 = .ok (.iconst 0, 1) := dk_3 (dk_at dksX4_doTell_0 14 rfl rfl)
theorem dX4_doTell_15 : decode cX4_doTell 15 = .ok (.istore_n 3, 1) := dk_62 (dk_at dksX4_doTell_0 15 rfl rfl)
theorem dX4_doTell_16 : decode cX4_doTell 16 = .ok (.iload_n 3, 1) := dk_29 (dk_at dksX4_doTell_0 16 rfl rfl)
theorem dX4_doTell_17 : decode cX4_doTell 17 = .ok (.iload_n 2, 1) := dk_28 (dk_at dksX4_doTell_0 17 rfl rfl)
theorem dX4_doTell_18 : decode cX4_doTell 18 = .ok (.if_icmp .ge 40, 3) := dk_162 0 40 (dk_at dksX4_doTell_0 18 rfl rfl)
theorem dX4_doTell_21 : decode cX4_doTell 21 = .ok (.aload_n 0, 1) := dk_42 (dk_at dksX4_doTell_0 21 rfl rfl)
theorem dX4_doTell_22 : decode cX4_doTell 22 = .ok (.iload_n 2, 1) := dk_28 (dk_at dksX4_doTell_0 22 rfl rfl)
theorem dX4_doTell_23 : decode cX4_doTell 23 = .ok (.invokevirtual 392, 3) := dk_182 1 136 (dk_at dksX4_doTell_1 0 rfl rfl)
theorem dX4_doTell_26 : decode cX4_doTell 26 = .ok (.aload_n 0, 1) := dk_42 (dk_at dksX4_doTell_1 3 rfl rfl)
theorem dX4_doTell_27 : decode cX4_doTell 27 = .ok (.iload_n 3, 1) := dk_29 (dk_at dksX4_doTell_1 4 rfl rfl)
theorem dX4_doTell_28 : decode cX4_doTell 28 = .ok (.invokevirtual 392, 3) := dk_182 1 136 (dk_at dksX4_doTell_1 5 rfl rfl)
theorem dX4_doTell_31 : decode cX4_doTell 31 = .ok (.if_icmp .eq 21, 3) := dk_159 0 21 (dk_at dksX4_doTell_1 8 rfl rfl)
theorem dX4_doTell_34 : decode cX4_doTell 34 = .ok (.aload_n 0, 1) := dk_42 (dk_at dksX4_doTell_1 11 rfl rfl)
theorem dX4_doTell_35 : decode cX4_doTell 35 = .ok (.iload_n 2, 1) := dk_28 (dk_at dksX4_doTell_1 12 rfl rfl)
theorem dX4_doTell_36 : decode cX4_doTell 36 = .ok (.invokevirtual 392, 3) := dk_182 1 136 (dk_at dksX4_doTell_1 13 rfl rfl)
theorem dX4_doTell_39 : decode cX4_doTell 39 = .ok (.aload_n 0, 1) := dk_42 (dk_at dksX4_doTell_1 16 rfl rfl)
theorem dX4_doTell_40 : decode cX4_doTell 40 = .ok (.iload_n 3, 1) := dk_29 (dk_at dksX4_doTell_1 17 rfl rfl)
theorem dX4_doTell_41 : decode cX4_doTell 41 = .ok (.invokevirtual 392, 3) := dk_182 1 136 (dk_at dksX4_doTell_1 18 rfl rfl)
theorem dX4_doTell_44 : decode cX4_doTell 44 = .ok (.ixor, 1) := dk_130 (dk_at dksX4_doTell_1 21 rfl rfl)
theorem dX4_doTell_45 : decode cX4_doTell 45 = .ok (.iload_n 1, 1) := dk_27 (dk_at dksX4_doTell_1 22 rfl rfl)
theorem dX4_doTell_46 : decode cX4_doTell 46 = .ok (.iand, 1) := dk_126 (dk_at dksX4_doTell_1 23 rfl rfl)
theorem dX4_doTell_47 : decode cX4_doTell 47 = .ok (.ifCond .ne 5, 3) := dk_154 0 5 (dk_at dksX4_doTell_2 0 rfl rfl)
theorem dX4_doTell_50 : decode cX4_doTell 50 = .ok (.iconst 0, 1) := dk_3 (dk_at dksX4_doTell_2 3 rfl rfl)
theorem dX4_doTell_51 : decode cX4_doTell 51 = .ok (.ireturn, 1) := dk_172 (dk_at dksX4_doTell_2 4 rfl rfl)
theorem dX4_doTell_52 : decode cX4_doTell 52 = .ok (.iinc 3 1, 3) := dk_132 3 1 (dk_at dksX4_doTell_2 5 rfl rfl)
theorem dX4_doTell_55 : decode cX4_doTell 55 = .ok (.goto (-39), 3) := dk_167 255 217 (dk_at dksX4_doTell_2 8 rfl rfl)
theorem dX4_doTell_58 : decode cX4_doTell 58 = .ok (.iinc 2 1, 3) := dk_132 2 1 (dk_at dksX4_doTell_2 11 rfl rfl)
theorem dX4_doTell_61 : decode cX4_doTell 61 = .ok (.goto (-59), 3) := dk_167 255 197 (dk_at dksX4_doTell_2 14 rfl rfl)
theorem dX4_doTell_64 : decode cX4_doTell 64 = .ok (.iconst 1, 1) := dk_4 (dk_at dksX4_doTell_2 17 rfl rfl)
theorem dX4_doTell_65 : decode cX4_doTell 65 = .ok (.ireturn, 1) := dk_172 (dk_at dksX4_doTell_2 18 rfl rfl)
abbrev cX4_round : ByteArray := prog_27_method_77_code
def yX4_round : MethodName := ⟨RX4, "round", "(IIII)I"⟩
def dkwX4_round_4 : List UInt8 := [154, 0, 8, 21, 6, 167, 0, 13, 21, 6, 42, 180, 0, 95, 21, 5, 46, 100, 172]
abbrev dktX4_round_4 : List UInt8 := dkwX4_round_4 ++ []
def dkwX4_round_3 : List UInt8 := [21, 5, 21, 6, 79, 132, 6, 1, 42, 21, 5, 28, 29, 3, 182, 1, 111, 54, 5, 167, 255, 223, 21, 4]
abbrev dktX4_round_3 : List UInt8 := dkwX4_round_3 ++ dktX4_round_4
def dkwX4_round_2 : List UInt8 := [42, 27, 182, 1, 136, 54, 5, 3, 54, 6, 42, 180, 0, 95, 21, 5, 46, 156, 0, 29, 42, 180, 0, 95]
abbrev dktX4_round_2 : List UInt8 := dkwX4_round_2 ++ dktX4_round_3
def dkwX4_round_1 : List UInt8 := [54, 5, 21, 5, 17, 16, 0, 162, 0, 17, 42, 180, 0, 95, 21, 5, 2, 79, 132, 5, 1, 167, 255, 237]
abbrev dktX4_round_1 : List UInt8 := dkwX4_round_1 ++ dktX4_round_2
def dkwX4_round_0 : List UInt8 := [42, 27, 28, 29, 182, 1, 142, 153, 0, 13, 21, 4, 3, 4, 184, 1, 89, 154, 0, 5, 2, 172, 3]
abbrev dktX4_round_0 : List UInt8 := dkwX4_round_0 ++ dktX4_round_1
theorem dksX4_round_0 : cX4_round.data.toList.drop 0 = dktX4_round_0 := by decide +kernel
theorem dksX4_round_1 : cX4_round.data.toList.drop 23 = dktX4_round_1 := dk_seg dksX4_round_0 23 rfl rfl
theorem dksX4_round_2 : cX4_round.data.toList.drop 47 = dktX4_round_2 := dk_seg dksX4_round_1 24 rfl rfl
theorem dksX4_round_3 : cX4_round.data.toList.drop 71 = dktX4_round_3 := dk_seg dksX4_round_2 24 rfl rfl
theorem dksX4_round_4 : cX4_round.data.toList.drop 95 = dktX4_round_4 := dk_seg dksX4_round_3 24 rfl rfl
theorem dX4_round_0 : decode cX4_round 0 = .ok (.aload_n 0, 1) := dk_42 (dk_at dksX4_round_0 0 rfl rfl)
theorem dX4_round_1 : decode cX4_round 1 = .ok (.iload_n 1, 1) := dk_27 (dk_at dksX4_round_0 1 rfl rfl)
theorem dX4_round_2 : decode cX4_round 2 = .ok (.iload_n 2, 1) := dk_28 (dk_at dksX4_round_0 2 rfl rfl)
theorem dX4_round_3 : decode cX4_round 3 = .ok (.iload_n 3, 1) := dk_29 (dk_at dksX4_round_0 3 rfl rfl)
theorem dX4_round_4 : decode cX4_round 4 = .ok (.invokevirtual 398, 3) := dk_182 1 142 (dk_at dksX4_round_0 4 rfl rfl)
theorem dX4_round_7 : decode cX4_round 7 = .ok (.ifCond .eq 13, 3) := dk_153 0 13 (dk_at dksX4_round_0 7 rfl rfl)
theorem dX4_round_10 : decode cX4_round 10 = .ok (.iload 4, 2) := dk_21 4 (dk_at dksX4_round_0 10 rfl rfl)
theorem dX4_round_12 : decode cX4_round 12 = .ok (.iconst 0, 1) := dk_3 (dk_at dksX4_round_0 12 rfl rfl)
theorem dX4_round_13 : decode cX4_round 13 = .ok (.iconst 1, 1) := dk_4 (dk_at dksX4_round_0 13 rfl rfl)
theorem dX4_round_14 : decode cX4_round 14 = .ok (.invokestatic 345, 3) := dk_184 1 89 (dk_at dksX4_round_0 14 rfl rfl)
theorem dX4_round_17 : decode cX4_round 17 = .ok (.ifCond .ne 5, 3) := dk_154 0 5 (dk_at dksX4_round_0 17 rfl rfl)
theorem dX4_round_20 : decode cX4_round 20 = .ok (.iconst (-1), 1) := dk_2 (dk_at dksX4_round_0 20 rfl rfl)
theorem dX4_round_21 : decode cX4_round 21 = .ok (.ireturn, 1) := dk_172 (dk_at dksX4_round_0 21 rfl rfl)
theorem dX4_round_22 : decode cX4_round 22 = .ok (.iconst 0, 1) := dk_3 (dk_at dksX4_round_0 22 rfl rfl)
theorem dX4_round_23 : decode cX4_round 23 = .ok (.istore 5, 2) := dk_54 5 (dk_at dksX4_round_1 0 rfl rfl)
theorem dX4_round_25 : decode cX4_round 25 = .ok (.iload 5, 2) := dk_21 5 (dk_at dksX4_round_1 2 rfl rfl)
theorem dX4_round_27 : decode cX4_round 27 = .ok (.sipush 4096, 3) := dk_17 16 0 (dk_at dksX4_round_1 4 rfl rfl)
theorem dX4_round_30 : decode cX4_round 30 = .ok (.if_icmp .ge 17, 3) := dk_162 0 17 (dk_at dksX4_round_1 7 rfl rfl)
theorem dX4_round_33 : decode cX4_round 33 = .ok (.aload_n 0, 1) := dk_42 (dk_at dksX4_round_1 10 rfl rfl)
theorem dX4_round_34 : decode cX4_round 34 = .ok (.getfield 95, 3) := dk_180 0 95 (dk_at dksX4_round_1 11 rfl rfl)
theorem dX4_round_37 : decode cX4_round 37 = .ok (.iload 5, 2) := dk_21 5 (dk_at dksX4_round_1 14 rfl rfl)
theorem dX4_round_39 : decode cX4_round 39 = .ok (.iconst (-1), 1) := dk_2 (dk_at dksX4_round_1 16 rfl rfl)
theorem dX4_round_40 : decode cX4_round 40 = .ok (.iastore, 1) := dk_79 (dk_at dksX4_round_1 17 rfl rfl)
theorem dX4_round_41 : decode cX4_round 41 = .ok (.iinc 5 1, 3) := dk_132 5 1 (dk_at dksX4_round_1 18 rfl rfl)
theorem dX4_round_44 : decode cX4_round 44 = .ok (.goto (-19), 3) := dk_167 255 237 (dk_at dksX4_round_1 21 rfl rfl)
theorem dX4_round_47 : decode cX4_round 47 = .ok (.aload_n 0, 1) := dk_42 (dk_at dksX4_round_2 0 rfl rfl)
theorem dX4_round_48 : decode cX4_round 48 = .ok (.iload_n 1, 1) := dk_27 (dk_at dksX4_round_2 1 rfl rfl)
theorem dX4_round_49 : decode cX4_round 49 = .ok (.invokevirtual 392, 3) := dk_182 1 136 (dk_at dksX4_round_2 2 rfl rfl)
theorem dX4_round_52 : decode cX4_round 52 = .ok (.istore 5, 2) := dk_54 5 (dk_at dksX4_round_2 5 rfl rfl)
theorem dX4_round_54 : decode cX4_round 54 = .ok (.iconst 0, 1) := dk_3 (dk_at dksX4_round_2 7 rfl rfl)
theorem dX4_round_55 : decode cX4_round 55 = .ok (.istore 6, 2) := dk_54 6 (dk_at dksX4_round_2 8 rfl rfl)
theorem dX4_round_57 : decode cX4_round 57 = .ok (.aload_n 0, 1) := dk_42 (dk_at dksX4_round_2 10 rfl rfl)
theorem dX4_round_58 : decode cX4_round 58 = .ok (.getfield 95, 3) := dk_180 0 95 (dk_at dksX4_round_2 11 rfl rfl)
theorem dX4_round_61 : decode cX4_round 61 = .ok (.iload 5, 2) := dk_21 5 (dk_at dksX4_round_2 14 rfl rfl)
theorem dX4_round_63 : decode cX4_round 63 = .ok (.iaload, 1) := dk_46 (dk_at dksX4_round_2 16 rfl rfl)
theorem dX4_round_64 : decode cX4_round 64 = .ok (.ifCond .ge 29, 3) := dk_156 0 29 (dk_at dksX4_round_2 17 rfl rfl)
theorem dX4_round_67 : decode cX4_round 67 = .ok (.aload_n 0, 1) := dk_42 (dk_at dksX4_round_2 20 rfl rfl)
theorem dX4_round_68 : decode cX4_round 68 = .ok (.getfield 95, 3) := dk_180 0 95 (dk_at dksX4_round_2 21 rfl rfl)
theorem dX4_round_71 : decode cX4_round 71 = .ok (.iload 5, 2) := dk_21 5 (dk_at dksX4_round_3 0 rfl rfl)
theorem dX4_round_73 : decode cX4_round 73 = .ok (.iload 6, 2) := dk_21 6 (dk_at dksX4_round_3 2 rfl rfl)
theorem dX4_round_75 : decode cX4_round 75 = .ok (.iastore, 1) := dk_79 (dk_at dksX4_round_3 4 rfl rfl)
theorem dX4_round_76 : decode cX4_round 76 = .ok (.iinc 6 1, 3) := dk_132 6 1 (dk_at dksX4_round_3 5 rfl rfl)
theorem dX4_round_79 : decode cX4_round 79 = .ok (.aload_n 0, 1) := dk_42 (dk_at dksX4_round_3 8 rfl rfl)
theorem dX4_round_80 : decode cX4_round 80 = .ok (.iload 5, 2) := dk_21 5 (dk_at dksX4_round_3 9 rfl rfl)
theorem dX4_round_82 : decode cX4_round 82 = .ok (.iload_n 2, 1) := dk_28 (dk_at dksX4_round_3 11 rfl rfl)
theorem dX4_round_83 : decode cX4_round 83 = .ok (.iload_n 3, 1) := dk_29 (dk_at dksX4_round_3 12 rfl rfl)
theorem dX4_round_84 : decode cX4_round 84 = .ok (.iconst 0, 1) := dk_3 (dk_at dksX4_round_3 13 rfl rfl)
theorem dX4_round_85 : decode cX4_round 85 = .ok (.invokevirtual 367, 3) := dk_182 1 111 (dk_at dksX4_round_3 14 rfl rfl)
theorem dX4_round_88 : decode cX4_round 88 = .ok (.istore 5, 2) := dk_54 5 (dk_at dksX4_round_3 17 rfl rfl)
theorem dX4_round_90 : decode cX4_round 90 = .ok (.goto (-33), 3) := dk_167 255 223 (dk_at dksX4_round_3 19 rfl rfl)
theorem dX4_round_93 : decode cX4_round 93 = .ok (.iload 4, 2) := dk_21 4 (dk_at dksX4_round_3 22 rfl rfl)
theorem dX4_round_95 : decode cX4_round 95 = .ok (.ifCond .ne 8, 3) := dk_154 0 8 (dk_at dksX4_round_4 0 rfl rfl)
theorem dX4_round_98 : decode cX4_round 98 = .ok (.iload 6, 2) := dk_21 6 (dk_at dksX4_round_4 3 rfl rfl)
theorem dX4_round_100 : decode cX4_round 100 = .ok (.goto 13, 3) := dk_167 0 13 (dk_at dksX4_round_4 5 rfl rfl)
theorem dX4_round_103 : decode cX4_round 103 = .ok (.iload 6, 2) := dk_21 6 (dk_at dksX4_round_4 8 rfl rfl)
theorem dX4_round_105 : decode cX4_round 105 = .ok (.aload_n 0, 1) := dk_42 (dk_at dksX4_round_4 10 rfl rfl)
theorem dX4_round_106 : decode cX4_round 106 = .ok (.getfield 95, 3) := dk_180 0 95 (dk_at dksX4_round_4 11 rfl rfl)
theorem dX4_round_109 : decode cX4_round 109 = .ok (.iload 5, 2) := dk_21 5 (dk_at dksX4_round_4 14 rfl rfl)
theorem dX4_round_111 : decode cX4_round 111 = .ok (.iaload, 1) := dk_46 (dk_at dksX4_round_4 16 rfl rfl)
theorem dX4_round_112 : decode cX4_round 112 = .ok (.isub, 1) := dk_100 (dk_at dksX4_round_4 17 rfl rfl)
theorem dX4_round_113 : decode cX4_round 113 = .ok (.ireturn, 1) := dk_172 (dk_at dksX4_round_4 18 rfl rfl)
abbrev cX4_steady : ByteArray := prog_27_method_78_code
def yX4_steady : MethodName := ⟨RX4, "steady", "(III)I"⟩
def dkwX4_steady_4 : List UInt8 := [54, 5, 132, 6, 1, 167, 255, 193, 29, 154, 0, 8, 21, 4, 167, 0, 5, 21, 5, 172]
abbrev dktX4_steady_4 : List UInt8 := dkwX4_steady_4 ++ []
def dkwX4_steady_3 : List UInt8 := [132, 4, 1, 21, 5, 155, 0, 16, 21, 6, 184, 1, 96, 21, 5, 184, 1, 96, 164, 0, 7, 21, 6]
abbrev dktX4_steady_3 : List UInt8 := dkwX4_steady_3 ++ dktX4_steady_4
def dkwX4_steady_2 : List UInt8 := [21, 6, 27, 28, 3, 182, 1, 111, 27, 28, 3, 182, 1, 111, 21, 6, 159, 0, 6, 167, 0, 28]
abbrev dktX4_steady_2 : List UInt8 := dkwX4_steady_2 ++ dktX4_steady_3
def dkwX4_steady_1 : List UInt8 := [2, 172, 3, 54, 4, 2, 54, 5, 3, 54, 6, 21, 6, 4, 42, 182, 1, 86, 120, 162, 0, 58, 42, 42]
abbrev dktX4_steady_1 : List UInt8 := dkwX4_steady_1 ++ dktX4_steady_2
def dkwX4_steady_0 : List UInt8 := [42, 27, 182, 1, 105, 153, 0, 19, 28, 184, 1, 108, 153, 0, 12, 29, 3, 4, 184, 1, 89, 154, 0, 5]
abbrev dktX4_steady_0 : List UInt8 := dkwX4_steady_0 ++ dktX4_steady_1
theorem dksX4_steady_0 : cX4_steady.data.toList.drop 0 = dktX4_steady_0 := by decide +kernel
theorem dksX4_steady_1 : cX4_steady.data.toList.drop 24 = dktX4_steady_1 := dk_seg dksX4_steady_0 24 rfl rfl
theorem dksX4_steady_2 : cX4_steady.data.toList.drop 48 = dktX4_steady_2 := dk_seg dksX4_steady_1 24 rfl rfl
theorem dksX4_steady_3 : cX4_steady.data.toList.drop 70 = dktX4_steady_3 := dk_seg dksX4_steady_2 22 rfl rfl
theorem dksX4_steady_4 : cX4_steady.data.toList.drop 93 = dktX4_steady_4 := dk_seg dksX4_steady_3 23 rfl rfl
theorem dX4_steady_0 : decode cX4_steady 0 = .ok (.aload_n 0, 1) := dk_42 (dk_at dksX4_steady_0 0 rfl rfl)
theorem dX4_steady_1 : decode cX4_steady 1 = .ok (.iload_n 1, 1) := dk_27 (dk_at dksX4_steady_0 1 rfl rfl)
theorem dX4_steady_2 : decode cX4_steady 2 = .ok (.invokevirtual 361, 3) := dk_182 1 105 (dk_at dksX4_steady_0 2 rfl rfl)
theorem dX4_steady_5 : decode cX4_steady 5 = .ok (.ifCond .eq 19, 3) := dk_153 0 19 (dk_at dksX4_steady_0 5 rfl rfl)
theorem dX4_steady_8 : decode cX4_steady 8 = .ok (.iload_n 2, 1) := dk_28 (dk_at dksX4_steady_0 8 rfl rfl)
theorem dX4_steady_9 : decode cX4_steady 9 = .ok (.invokestatic 364, 3) := dk_184 1 108 (dk_at dksX4_steady_0 9 rfl rfl)
theorem dX4_steady_12 : decode cX4_steady 12 = .ok (.ifCond .eq 12, 3) := dk_153 0 12 (dk_at dksX4_steady_0 12 rfl rfl)
theorem dX4_steady_15 : decode cX4_steady 15 = .ok (.iload_n 3, 1) := dk_29 (dk_at dksX4_steady_0 15 rfl rfl)
theorem dX4_steady_16 : decode cX4_steady 16 = .ok (.iconst 0, 1) := dk_3 (dk_at dksX4_steady_0 16 rfl rfl)
theorem dX4_steady_17 : decode cX4_steady 17 = .ok (.iconst 1, 1) := dk_4 (dk_at dksX4_steady_0 17 rfl rfl)
theorem dX4_steady_18 : decode cX4_steady 18 = .ok (.invokestatic 345, 3) := dk_184 1 89 (dk_at dksX4_steady_0 18 rfl rfl)
theorem dX4_steady_21 : decode cX4_steady 21 = .ok (.ifCond .ne 5, 3) := dk_154 0 5 (dk_at dksX4_steady_0 21 rfl rfl)
theorem dX4_steady_24 : decode cX4_steady 24 = .ok (.iconst (-1), 1) := dk_2 (dk_at dksX4_steady_1 0 rfl rfl)
theorem dX4_steady_25 : decode cX4_steady 25 = .ok (.ireturn, 1) := dk_172 (dk_at dksX4_steady_1 1 rfl rfl)
theorem dX4_steady_26 : decode cX4_steady 26 = .ok (.iconst 0, 1) := dk_3 (dk_at dksX4_steady_1 2 rfl rfl)
theorem dX4_steady_27 : decode cX4_steady 27 = .ok (.istore 4, 2) := dk_54 4 (dk_at dksX4_steady_1 3 rfl rfl)
theorem dX4_steady_29 : decode cX4_steady 29 = .ok (.iconst (-1), 1) := dk_2 (dk_at dksX4_steady_1 5 rfl rfl)
theorem dX4_steady_30 : decode cX4_steady 30 = .ok (.istore 5, 2) := dk_54 5 (dk_at dksX4_steady_1 6 rfl rfl)
theorem dX4_steady_32 : decode cX4_steady 32 = .ok (.iconst 0, 1) := dk_3 (dk_at dksX4_steady_1 8 rfl rfl)
theorem dX4_steady_33 : decode cX4_steady 33 = .ok (.istore 6, 2) := dk_54 6 (dk_at dksX4_steady_1 9 rfl rfl)
theorem dX4_steady_35 : decode cX4_steady 35 = .ok (.iload 6, 2) := dk_21 6 (dk_at dksX4_steady_1 11 rfl rfl)
theorem dX4_steady_37 : decode cX4_steady 37 = .ok (.iconst 1, 1) := dk_4 (dk_at dksX4_steady_1 13 rfl rfl)
theorem dX4_steady_38 : decode cX4_steady 38 = .ok (.aload_n 0, 1) := dk_42 (dk_at dksX4_steady_1 14 rfl rfl)
theorem dX4_steady_39 : decode cX4_steady 39 = .ok (.invokevirtual 342, 3) := dk_182 1 86 (dk_at dksX4_steady_1 15 rfl rfl)
theorem dX4_steady_42 : decode cX4_steady 42 = .ok (.ishl, 1) := dk_120 (dk_at dksX4_steady_1 18 rfl rfl)
theorem dX4_steady_43 : decode cX4_steady 43 = .ok (.if_icmp .ge 58, 3) := dk_162 0 58 (dk_at dksX4_steady_1 19 rfl rfl)
theorem dX4_steady_46 : decode cX4_steady 46 = .ok (.aload_n 0, 1) := dk_42 (dk_at dksX4_steady_1 22 rfl rfl)
theorem dX4_steady_47 : decode cX4_steady 47 = .ok (.aload_n 0, 1) := dk_42 (dk_at dksX4_steady_1 23 rfl rfl)
theorem dX4_steady_48 : decode cX4_steady 48 = .ok (.iload 6, 2) := dk_21 6 (dk_at dksX4_steady_2 0 rfl rfl)
theorem dX4_steady_50 : decode cX4_steady 50 = .ok (.iload_n 1, 1) := dk_27 (dk_at dksX4_steady_2 2 rfl rfl)
theorem dX4_steady_51 : decode cX4_steady 51 = .ok (.iload_n 2, 1) := dk_28 (dk_at dksX4_steady_2 3 rfl rfl)
theorem dX4_steady_52 : decode cX4_steady 52 = .ok (.iconst 0, 1) := dk_3 (dk_at dksX4_steady_2 4 rfl rfl)
theorem dX4_steady_53 : decode cX4_steady 53 = .ok (.invokevirtual 367, 3) := dk_182 1 111 (dk_at dksX4_steady_2 5 rfl rfl)
theorem dX4_steady_56 : decode cX4_steady 56 = .ok (.iload_n 1, 1) := dk_27 (dk_at dksX4_steady_2 8 rfl rfl)
theorem dX4_steady_57 : decode cX4_steady 57 = .ok (.iload_n 2, 1) := dk_28 (dk_at dksX4_steady_2 9 rfl rfl)
theorem dX4_steady_58 : decode cX4_steady 58 = .ok (.iconst 0, 1) := dk_3 (dk_at dksX4_steady_2 10 rfl rfl)
theorem dX4_steady_59 : decode cX4_steady 59 = .ok (.invokevirtual 367, 3) := dk_182 1 111 (dk_at dksX4_steady_2 11 rfl rfl)
theorem dX4_steady_62 : decode cX4_steady 62 = .ok (.iload 6, 2) := dk_21 6 (dk_at dksX4_steady_2 14 rfl rfl)
theorem dX4_steady_64 : decode cX4_steady 64 = .ok (.if_icmp .eq 6, 3) := dk_159 0 6 (dk_at dksX4_steady_2 16 rfl rfl)
theorem dX4_steady_67 : decode cX4_steady 67 = .ok (.goto 28, 3) := dk_167 0 28 (dk_at dksX4_steady_2 19 rfl rfl)
theorem dX4_steady_70 : decode cX4_steady 70 = .ok (.iinc 4 1, 3) := dk_132 4 1 (dk_at dksX4_steady_3 0 rfl rfl)
theorem dX4_steady_73 : decode cX4_steady 73 = .ok (.iload 5, 2) := dk_21 5 (dk_at dksX4_steady_3 3 rfl rfl)
theorem dX4_steady_75 : decode cX4_steady 75 = .ok (.ifCond .lt 16, 3) := dk_155 0 16 (dk_at dksX4_steady_3 5 rfl rfl)
theorem dX4_steady_78 : decode cX4_steady 78 = .ok (.iload 6, 2) := dk_21 6 (dk_at dksX4_steady_3 8 rfl rfl)
theorem dX4_steady_80 : decode cX4_steady 80 = .ok (.invokestatic 352, 3) := dk_184 1 96 (dk_at dksX4_steady_3 10 rfl rfl)
theorem dX4_steady_83 : decode cX4_steady 83 = .ok (.iload 5, 2) := dk_21 5 (dk_at dksX4_steady_3 13 rfl rfl)
theorem dX4_steady_85 : decode cX4_steady 85 = .ok (.invokestatic 352, 3) := dk_184 1 96 (dk_at dksX4_steady_3 15 rfl rfl)
theorem dX4_steady_88 : decode cX4_steady 88 = .ok (.if_icmp .le 7, 3) := dk_164 0 7 (dk_at dksX4_steady_3 18 rfl rfl)
theorem dX4_steady_91 : decode cX4_steady 91 = .ok (.iload 6, 2) := dk_21 6 (dk_at dksX4_steady_3 21 rfl rfl)
theorem dX4_steady_93 : decode cX4_steady 93 = .ok (.istore 5, 2) := dk_54 5 (dk_at dksX4_steady_4 0 rfl rfl)
theorem dX4_steady_95 : decode cX4_steady 95 = .ok (.iinc 6 1, 3) := dk_132 6 1 (dk_at dksX4_steady_4 2 rfl rfl)
theorem dX4_steady_98 : decode cX4_steady 98 = .ok (.goto (-63), 3) := dk_167 255 193 (dk_at dksX4_steady_4 5 rfl rfl)
theorem dX4_steady_101 : decode cX4_steady 101 = .ok (.iload_n 3, 1) := dk_29 (dk_at dksX4_steady_4 8 rfl rfl)
theorem dX4_steady_102 : decode cX4_steady 102 = .ok (.ifCond .ne 8, 3) := dk_154 0 8 (dk_at dksX4_steady_4 9 rfl rfl)
theorem dX4_steady_105 : decode cX4_steady 105 = .ok (.iload 4, 2) := dk_21 4 (dk_at dksX4_steady_4 12 rfl rfl)
theorem dX4_steady_107 : decode cX4_steady 107 = .ok (.goto 5, 3) := dk_167 0 5 (dk_at dksX4_steady_4 14 rfl rfl)
theorem dX4_steady_110 : decode cX4_steady 110 = .ok (.iload 5, 2) := dk_21 5 (dk_at dksX4_steady_4 17 rfl rfl)
theorem dX4_steady_112 : decode cX4_steady 112 = .ok (.ireturn, 1) := dk_172 (dk_at dksX4_steady_4 19 rfl rfl)
abbrev cX4_against : ByteArray := prog_27_method_79_code
def yX4_against : MethodName := ⟨RX4, "against", "(III)I"⟩
def dkwX4_against_3 : List UInt8 := [54, 4, 132, 5, 1, 167, 255, 211, 21, 4, 172]
abbrev dktX4_against_3 : List UInt8 := dkwX4_against_3 ++ []
def dkwX4_against_2 : List UInt8 := [29, 3, 182, 1, 111, 42, 21, 5, 28, 29, 3, 182, 1, 111, 159, 0, 7, 4, 167, 0, 4, 3, 96]
abbrev dktX4_against_2 : List UInt8 := dkwX4_against_2 ++ dktX4_against_3
def dkwX4_against_1 : List UInt8 := [172, 3, 54, 4, 3, 54, 5, 21, 5, 4, 42, 182, 1, 86, 120, 162, 0, 40, 21, 4, 42, 21, 5, 27]
abbrev dktX4_against_1 : List UInt8 := dkwX4_against_1 ++ dktX4_against_2
def dkwX4_against_0 : List UInt8 := [42, 27, 182, 1, 105, 153, 0, 18, 42, 28, 182, 1, 105, 153, 0, 10, 29, 184, 1, 108, 154, 0, 5, 2]
abbrev dktX4_against_0 : List UInt8 := dkwX4_against_0 ++ dktX4_against_1
theorem dksX4_against_0 : cX4_against.data.toList.drop 0 = dktX4_against_0 := by decide +kernel
theorem dksX4_against_1 : cX4_against.data.toList.drop 24 = dktX4_against_1 := dk_seg dksX4_against_0 24 rfl rfl
theorem dksX4_against_2 : cX4_against.data.toList.drop 48 = dktX4_against_2 := dk_seg dksX4_against_1 24 rfl rfl
theorem dksX4_against_3 : cX4_against.data.toList.drop 71 = dktX4_against_3 := dk_seg dksX4_against_2 23 rfl rfl
theorem dX4_against_0 : decode cX4_against 0 = .ok (.aload_n 0, 1) := dk_42 (dk_at dksX4_against_0 0 rfl rfl)
theorem dX4_against_1 : decode cX4_against 1 = .ok (.iload_n 1, 1) := dk_27 (dk_at dksX4_against_0 1 rfl rfl)
theorem dX4_against_2 : decode cX4_against 2 = .ok (.invokevirtual 361, 3) := dk_182 1 105 (dk_at dksX4_against_0 2 rfl rfl)
theorem dX4_against_5 : decode cX4_against 5 = .ok (.ifCond .eq 18, 3) := dk_153 0 18 (dk_at dksX4_against_0 5 rfl rfl)
theorem dX4_against_8 : decode cX4_against 8 = .ok (.aload_n 0, 1) := dk_42 (dk_at dksX4_against_0 8 rfl rfl)
theorem dX4_against_9 : decode cX4_against 9 = .ok (.iload_n 2, 1) := dk_28 (dk_at dksX4_against_0 9 rfl rfl)
theorem dX4_against_10 : decode cX4_against 10 = .ok (.invokevirtual 361, 3) := dk_182 1 105 (dk_at dksX4_against_0 10 rfl rfl)
theorem dX4_against_13 : decode cX4_against 13 = .ok (.ifCond .eq 10, 3) := dk_153 0 10 (dk_at dksX4_against_0 13 rfl rfl)
theorem dX4_against_16 : decode cX4_against 16 = .ok (.iload_n 3, 1) := dk_29 (dk_at dksX4_against_0 16 rfl rfl)
theorem dX4_against_17 : decode cX4_against 17 = .ok (.invokestatic 364, 3) := dk_184 1 108 (dk_at dksX4_against_0 17 rfl rfl)
theorem dX4_against_20 : decode cX4_against 20 = .ok (.ifCond .ne 5, 3) := dk_154 0 5 (dk_at dksX4_against_0 20 rfl rfl)
theorem dX4_against_23 : decode cX4_against 23 = .ok (.iconst (-1), 1) := dk_2 (dk_at dksX4_against_0 23 rfl rfl)
theorem dX4_against_24 : decode cX4_against 24 = .ok (.ireturn, 1) := dk_172 (dk_at dksX4_against_1 0 rfl rfl)
theorem dX4_against_25 : decode cX4_against 25 = .ok (.iconst 0, 1) := dk_3 (dk_at dksX4_against_1 1 rfl rfl)
theorem dX4_against_26 : decode cX4_against 26 = .ok (.istore 4, 2) := dk_54 4 (dk_at dksX4_against_1 2 rfl rfl)
theorem dX4_against_28 : decode cX4_against 28 = .ok (.iconst 0, 1) := dk_3 (dk_at dksX4_against_1 4 rfl rfl)
theorem dX4_against_29 : decode cX4_against 29 = .ok (.istore 5, 2) := dk_54 5 (dk_at dksX4_against_1 5 rfl rfl)
theorem dX4_against_31 : decode cX4_against 31 = .ok (.iload 5, 2) := dk_21 5 (dk_at dksX4_against_1 7 rfl rfl)
theorem dX4_against_33 : decode cX4_against 33 = .ok (.iconst 1, 1) := dk_4 (dk_at dksX4_against_1 9 rfl rfl)
theorem dX4_against_34 : decode cX4_against 34 = .ok (.aload_n 0, 1) := dk_42 (dk_at dksX4_against_1 10 rfl rfl)
theorem dX4_against_35 : decode cX4_against 35 = .ok (.invokevirtual 342, 3) := dk_182 1 86 (dk_at dksX4_against_1 11 rfl rfl)
theorem dX4_against_38 : decode cX4_against 38 = .ok (.ishl, 1) := dk_120 (dk_at dksX4_against_1 14 rfl rfl)
theorem dX4_against_39 : decode cX4_against 39 = .ok (.if_icmp .ge 40, 3) := dk_162 0 40 (dk_at dksX4_against_1 15 rfl rfl)
theorem dX4_against_42 : decode cX4_against 42 = .ok (.iload 4, 2) := dk_21 4 (dk_at dksX4_against_1 18 rfl rfl)
theorem dX4_against_44 : decode cX4_against 44 = .ok (.aload_n 0, 1) := dk_42 (dk_at dksX4_against_1 20 rfl rfl)
theorem dX4_against_45 : decode cX4_against 45 = .ok (.iload 5, 2) := dk_21 5 (dk_at dksX4_against_1 21 rfl rfl)
theorem dX4_against_47 : decode cX4_against 47 = .ok (.iload_n 1, 1) := dk_27 (dk_at dksX4_against_1 23 rfl rfl)
theorem dX4_against_48 : decode cX4_against 48 = .ok (.iload_n 3, 1) := dk_29 (dk_at dksX4_against_2 0 rfl rfl)
theorem dX4_against_49 : decode cX4_against 49 = .ok (.iconst 0, 1) := dk_3 (dk_at dksX4_against_2 1 rfl rfl)
theorem dX4_against_50 : decode cX4_against 50 = .ok (.invokevirtual 367, 3) := dk_182 1 111 (dk_at dksX4_against_2 2 rfl rfl)
theorem dX4_against_53 : decode cX4_against 53 = .ok (.aload_n 0, 1) := dk_42 (dk_at dksX4_against_2 5 rfl rfl)
theorem dX4_against_54 : decode cX4_against 54 = .ok (.iload 5, 2) := dk_21 5 (dk_at dksX4_against_2 6 rfl rfl)
theorem dX4_against_56 : decode cX4_against 56 = .ok (.iload_n 2, 1) := dk_28 (dk_at dksX4_against_2 8 rfl rfl)
theorem dX4_against_57 : decode cX4_against 57 = .ok (.iload_n 3, 1) := dk_29 (dk_at dksX4_against_2 9 rfl rfl)
theorem dX4_against_58 : decode cX4_against 58 = .ok (.iconst 0, 1) := dk_3 (dk_at dksX4_against_2 10 rfl rfl)
theorem dX4_against_59 : decode cX4_against 59 = .ok (.invokevirtual 367, 3) := dk_182 1 111 (dk_at dksX4_against_2 11 rfl rfl)
theorem dX4_against_62 : decode cX4_against 62 = .ok (.if_icmp .eq 7, 3) := dk_159 0 7 (dk_at dksX4_against_2 14 rfl rfl)
theorem dX4_against_65 : decode cX4_against 65 = .ok (.iconst 1, 1) := dk_4 (dk_at dksX4_against_2 17 rfl rfl)
theorem dX4_against_66 : decode cX4_against 66 = .ok (.goto 4, 3) := dk_167 0 4 (dk_at dksX4_against_2 18 rfl rfl)
theorem dX4_against_69 : decode cX4_against 69 = .ok (.iconst 0, 1) := dk_3 (dk_at dksX4_against_2 21 rfl rfl)
theorem dX4_against_70 : decode cX4_against 70 = .ok (.iadd, 1) := dk_96 (dk_at dksX4_against_2 22 rfl rfl)
theorem dX4_against_71 : decode cX4_against 71 = .ok (.istore 4, 2) := dk_54 4 (dk_at dksX4_against_3 0 rfl rfl)
theorem dX4_against_73 : decode cX4_against 73 = .ok (.iinc 5 1, 3) := dk_132 5 1 (dk_at dksX4_against_3 2 rfl rfl)
theorem dX4_against_76 : decode cX4_against 76 = .ok (.goto (-45), 3) := dk_167 255 211 (dk_at dksX4_against_3 5 rfl rfl)
theorem dX4_against_79 : decode cX4_against 79 = .ok (.iload 4, 2) := dk_21 4 (dk_at dksX4_against_3 8 rfl rfl)
theorem dX4_against_81 : decode cX4_against 81 = .ok (.ireturn, 1) := dk_172 (dk_at dksX4_against_3 10 rfl rfl)
abbrev cX4_forge : ByteArray := prog_27_method_80_code
def yX4_forge : MethodName := ⟨RX4, "forge", "(IIIII)I"⟩
def dkwX4_forge_5 : List UInt8 := [154, 0, 8, 21, 7, 167, 0, 5, 21, 6, 172]
abbrev dktX4_forge_5 : List UInt8 := dkwX4_forge_5 ++ []
def dkwX4_forge_4 : List UInt8 := [54, 6, 21, 9, 54, 7, 132, 8, 1, 167, 255, 192, 21, 6, 156, 0, 7, 2, 167, 0, 15, 21, 5]
abbrev dktX4_forge_4 : List UInt8 := dkwX4_forge_4 ++ dktX4_forge_5
def dkwX4_forge_3 : List UInt8 := [21, 7, 162, 0, 28, 42, 21, 8, 28, 29, 3, 182, 1, 111, 21, 4, 159, 0, 6, 167, 0, 11, 21, 8]
abbrev dktX4_forge_3 : List UInt8 := dkwX4_forge_3 ++ dktX4_forge_4
def dkwX4_forge_2 : List UInt8 := [120, 162, 0, 59, 21, 8, 42, 27, 182, 1, 136, 130, 184, 1, 96, 54, 9, 21, 6, 155, 0, 10, 21, 9]
abbrev dktX4_forge_2 : List UInt8 := dkwX4_forge_2 ++ dktX4_forge_3
def dkwX4_forge_1 : List UInt8 := [184, 1, 89, 154, 0, 5, 2, 172, 2, 54, 6, 3, 54, 7, 3, 54, 8, 21, 8, 4, 42, 182, 1, 86]
abbrev dktX4_forge_1 : List UInt8 := dkwX4_forge_1 ++ dktX4_forge_2
def dkwX4_forge_0 : List UInt8 := [42, 27, 28, 29, 182, 1, 142, 153, 0, 22, 42, 21, 4, 182, 1, 102, 153, 0, 13, 21, 5, 3, 4]
abbrev dktX4_forge_0 : List UInt8 := dkwX4_forge_0 ++ dktX4_forge_1
theorem dksX4_forge_0 : cX4_forge.data.toList.drop 0 = dktX4_forge_0 := by decide +kernel
theorem dksX4_forge_1 : cX4_forge.data.toList.drop 23 = dktX4_forge_1 := dk_seg dksX4_forge_0 23 rfl rfl
theorem dksX4_forge_2 : cX4_forge.data.toList.drop 47 = dktX4_forge_2 := dk_seg dksX4_forge_1 24 rfl rfl
theorem dksX4_forge_3 : cX4_forge.data.toList.drop 71 = dktX4_forge_3 := dk_seg dksX4_forge_2 24 rfl rfl
theorem dksX4_forge_4 : cX4_forge.data.toList.drop 95 = dktX4_forge_4 := dk_seg dksX4_forge_3 24 rfl rfl
theorem dksX4_forge_5 : cX4_forge.data.toList.drop 118 = dktX4_forge_5 := dk_seg dksX4_forge_4 23 rfl rfl
theorem dX4_forge_0 : decode cX4_forge 0 = .ok (.aload_n 0, 1) := dk_42 (dk_at dksX4_forge_0 0 rfl rfl)
theorem dX4_forge_1 : decode cX4_forge 1 = .ok (.iload_n 1, 1) := dk_27 (dk_at dksX4_forge_0 1 rfl rfl)
theorem dX4_forge_2 : decode cX4_forge 2 = .ok (.iload_n 2, 1) := dk_28 (dk_at dksX4_forge_0 2 rfl rfl)
theorem dX4_forge_3 : decode cX4_forge 3 = .ok (.iload_n 3, 1) := dk_29 (dk_at dksX4_forge_0 3 rfl rfl)
theorem dX4_forge_4 : decode cX4_forge 4 = .ok (.invokevirtual 398, 3) := dk_182 1 142 (dk_at dksX4_forge_0 4 rfl rfl)
theorem dX4_forge_7 : decode cX4_forge 7 = .ok (.ifCond .eq 22, 3) := dk_153 0 22 (dk_at dksX4_forge_0 7 rfl rfl)
theorem dX4_forge_10 : decode cX4_forge 10 = .ok (.aload_n 0, 1) := dk_42 (dk_at dksX4_forge_0 10 rfl rfl)
theorem dX4_forge_11 : decode cX4_forge 11 = .ok (.iload 4, 2) := dk_21 4 (dk_at dksX4_forge_0 11 rfl rfl)
theorem dX4_forge_13 : decode cX4_forge 13 = .ok (.invokevirtual 358, 3) := dk_182 1 102 (dk_at dksX4_forge_0 13 rfl rfl)
theorem dX4_forge_16 : decode cX4_forge 16 = .ok (.ifCond .eq 13, 3) := dk_153 0 13 (dk_at dksX4_forge_0 16 rfl rfl)
theorem dX4_forge_19 : decode cX4_forge 19 = .ok (.iload 5, 2) := dk_21 5 (dk_at dksX4_forge_0 19 rfl rfl)
theorem dX4_forge_21 : decode cX4_forge 21 = .ok (.iconst 0, 1) := dk_3 (dk_at dksX4_forge_0 21 rfl rfl)
theorem dX4_forge_22 : decode cX4_forge 22 = .ok (.iconst 1, 1) := dk_4 (dk_at dksX4_forge_0 22 rfl rfl)
theorem dX4_forge_23 : decode cX4_forge 23 = .ok (.invokestatic 345, 3) := dk_184 1 89 (dk_at dksX4_forge_1 0 rfl rfl)
theorem dX4_forge_26 : decode cX4_forge 26 = .ok (.ifCond .ne 5, 3) := dk_154 0 5 (dk_at dksX4_forge_1 3 rfl rfl)
theorem dX4_forge_29 : decode cX4_forge 29 = .ok (.iconst (-1), 1) := dk_2 (dk_at dksX4_forge_1 6 rfl rfl)
theorem dX4_forge_30 : decode cX4_forge 30 = .ok (.ireturn, 1) := dk_172 (dk_at dksX4_forge_1 7 rfl rfl)
theorem dX4_forge_31 : decode cX4_forge 31 = .ok (.iconst (-1), 1) := dk_2 (dk_at dksX4_forge_1 8 rfl rfl)
theorem dX4_forge_32 : decode cX4_forge 32 = .ok (.istore 6, 2) := dk_54 6 (dk_at dksX4_forge_1 9 rfl rfl)
theorem dX4_forge_34 : decode cX4_forge 34 = .ok (.iconst 0, 1) := dk_3 (dk_at dksX4_forge_1 11 rfl rfl)
theorem dX4_forge_35 : decode cX4_forge 35 = .ok (.istore 7, 2) := dk_54 7 (dk_at dksX4_forge_1 12 rfl rfl)
theorem dX4_forge_37 : decode cX4_forge 37 = .ok (.iconst 0, 1) := dk_3 (dk_at dksX4_forge_1 14 rfl rfl)
theorem dX4_forge_38 : decode cX4_forge 38 = .ok (.istore 8, 2) := dk_54 8 (dk_at dksX4_forge_1 15 rfl rfl)
theorem dX4_forge_40 : decode cX4_forge 40 = .ok (.iload 8, 2) := dk_21 8 (dk_at dksX4_forge_1 17 rfl rfl)
theorem dX4_forge_42 : decode cX4_forge 42 = .ok (.iconst 1, 1) := dk_4 (dk_at dksX4_forge_1 19 rfl rfl)
theorem dX4_forge_43 : decode cX4_forge 43 = .ok (.aload_n 0, 1) := dk_42 (dk_at dksX4_forge_1 20 rfl rfl)
theorem dX4_forge_44 : decode cX4_forge 44 = .ok (.invokevirtual 342, 3) := dk_182 1 86 (dk_at dksX4_forge_1 21 rfl rfl)
theorem dX4_forge_47 : decode cX4_forge 47 = .ok (.ishl, 1) := dk_120 (dk_at dksX4_forge_2 0 rfl rfl)
theorem dX4_forge_48 : decode cX4_forge 48 = .ok (.if_icmp .ge 59, 3) := dk_162 0 59 (dk_at dksX4_forge_2 1 rfl rfl)
theorem dX4_forge_51 : decode cX4_forge 51 = .ok (.iload 8, 2) := dk_21 8 (dk_at dksX4_forge_2 4 rfl rfl)
theorem dX4_forge_53 : decode cX4_forge 53 = .ok (.aload_n 0, 1) := dk_42 (dk_at dksX4_forge_2 6 rfl rfl)
theorem dX4_forge_54 : decode cX4_forge 54 = .ok (.iload_n 1, 1) := dk_27 (dk_at dksX4_forge_2 7 rfl rfl)
theorem dX4_forge_55 : decode cX4_forge 55 = .ok (.invokevirtual 392, 3) := dk_182 1 136 (dk_at dksX4_forge_2 8 rfl rfl)
theorem dX4_forge_58 : decode cX4_forge 58 = .ok (.ixor, 1) := dk_130 (dk_at dksX4_forge_2 11 rfl rfl)
theorem dX4_forge_59 : decode cX4_forge 59 = .ok (.invokestatic 352, 3) := dk_184 1 96 (dk_at dksX4_forge_2 12 rfl rfl)
theorem dX4_forge_62 : decode cX4_forge 62 = .ok (.istore 9, 2) := dk_54 9 (dk_at dksX4_forge_2 15 rfl rfl)
theorem dX4_forge_64 : decode cX4_forge 64 = .ok (.iload 6, 2) := dk_21 6 (dk_at dksX4_forge_2 17 rfl rfl)
theorem dX4_forge_66 : decode cX4_forge 66 = .ok (.ifCond .lt 10, 3) := dk_155 0 10 (dk_at dksX4_forge_2 19 rfl rfl)
theorem dX4_forge_69 : decode cX4_forge 69 = .ok (.iload 9, 2) := dk_21 9 (dk_at dksX4_forge_2 22 rfl rfl)
theorem dX4_forge_71 : decode cX4_forge 71 = .ok (.iload 7, 2) := dk_21 7 (dk_at dksX4_forge_3 0 rfl rfl)
theorem dX4_forge_73 : decode cX4_forge 73 = .ok (.if_icmp .ge 28, 3) := dk_162 0 28 (dk_at dksX4_forge_3 2 rfl rfl)
theorem dX4_forge_76 : decode cX4_forge 76 = .ok (.aload_n 0, 1) := dk_42 (dk_at dksX4_forge_3 5 rfl rfl)
theorem dX4_forge_77 : decode cX4_forge 77 = .ok (.iload 8, 2) := dk_21 8 (dk_at dksX4_forge_3 6 rfl rfl)
theorem dX4_forge_79 : decode cX4_forge 79 = .ok (.iload_n 2, 1) := dk_28 (dk_at dksX4_forge_3 8 rfl rfl)
theorem dX4_forge_80 : decode cX4_forge 80 = .ok (.iload_n 3, 1) := dk_29 (dk_at dksX4_forge_3 9 rfl rfl)
theorem dX4_forge_81 : decode cX4_forge 81 = .ok (.iconst 0, 1) := dk_3 (dk_at dksX4_forge_3 10 rfl rfl)
theorem dX4_forge_82 : decode cX4_forge 82 = .ok (.invokevirtual 367, 3) := dk_182 1 111 (dk_at dksX4_forge_3 11 rfl rfl)
theorem dX4_forge_85 : decode cX4_forge 85 = .ok (.iload 4, 2) := dk_21 4 (dk_at dksX4_forge_3 14 rfl rfl)
theorem dX4_forge_87 : decode cX4_forge 87 = .ok (.if_icmp .eq 6, 3) := dk_159 0 6 (dk_at dksX4_forge_3 16 rfl rfl)
theorem dX4_forge_90 : decode cX4_forge 90 = .ok (.goto 11, 3) := dk_167 0 11 (dk_at dksX4_forge_3 19 rfl rfl)
theorem dX4_forge_93 : decode cX4_forge 93 = .ok (.iload 8, 2) := dk_21 8 (dk_at dksX4_forge_3 22 rfl rfl)
theorem dX4_forge_95 : decode cX4_forge 95 = .ok (.istore 6, 2) := dk_54 6 (dk_at dksX4_forge_4 0 rfl rfl)
theorem dX4_forge_97 : decode cX4_forge 97 = .ok (.iload 9, 2) := dk_21 9 (dk_at dksX4_forge_4 2 rfl rfl)
theorem dX4_forge_99 : decode cX4_forge 99 = .ok (.istore 7, 2) := dk_54 7 (dk_at dksX4_forge_4 4 rfl rfl)
theorem dX4_forge_101 : decode cX4_forge 101 = .ok (.iinc 8 1, 3) := dk_132 8 1 (dk_at dksX4_forge_4 6 rfl rfl)
theorem dX4_forge_104 : decode cX4_forge 104 = .ok (.goto (-64), 3) := dk_167 255 192 (dk_at dksX4_forge_4 9 rfl rfl)
theorem dX4_forge_107 : decode cX4_forge 107 = .ok (.iload 6, 2) := dk_21 6 (dk_at dksX4_forge_4 12 rfl rfl)
theorem dX4_forge_109 : decode cX4_forge 109 = .ok (.ifCond .ge 7, 3) := dk_156 0 7 (dk_at dksX4_forge_4 14 rfl rfl)
theorem dX4_forge_112 : decode cX4_forge 112 = .ok (.iconst (-1), 1) := dk_2 (dk_at dksX4_forge_4 17 rfl rfl)
theorem dX4_forge_113 : decode cX4_forge 113 = .ok (.goto 15, 3) := dk_167 0 15 (dk_at dksX4_forge_4 18 rfl rfl)
theorem dX4_forge_116 : decode cX4_forge 116 = .ok (.iload 5, 2) := dk_21 5 (dk_at dksX4_forge_4 21 rfl rfl)
theorem dX4_forge_118 : decode cX4_forge 118 = .ok (.ifCond .ne 8, 3) := dk_154 0 8 (dk_at dksX4_forge_5 0 rfl rfl)
theorem dX4_forge_121 : decode cX4_forge 121 = .ok (.iload 7, 2) := dk_21 7 (dk_at dksX4_forge_5 3 rfl rfl)
theorem dX4_forge_123 : decode cX4_forge 123 = .ok (.goto 5, 3) := dk_167 0 5 (dk_at dksX4_forge_5 5 rfl rfl)
theorem dX4_forge_126 : decode cX4_forge 126 = .ok (.iload 6, 2) := dk_21 6 (dk_at dksX4_forge_5 8 rfl rfl)
theorem dX4_forge_128 : decode cX4_forge 128 = .ok (.ireturn, 1) := dk_172 (dk_at dksX4_forge_5 10 rfl rfl)
abbrev cX4_nearest : ByteArray := prog_27_method_81_code
def yX4_nearest : MethodName := ⟨RX4, "nearest", "(II)I"⟩
def dkwX4_nearest_6 : List UInt8 := [112, 167, 0, 13, 29, 42, 180, 0, 77, 17, 0, 216, 46, 108, 172]
abbrev dktX4_nearest_6 : List UInt8 := dkwX4_nearest_6 ++ []
def dkwX4_nearest_5 : List UInt8 := [167, 255, 165, 28, 154, 0, 6, 21, 4, 172, 28, 4, 160, 0, 16, 29, 42, 180, 0, 77, 17, 0, 216, 46]
abbrev dktX4_nearest_5 : List UInt8 := dkwX4_nearest_5 ++ dktX4_nearest_6
def dkwX4_nearest_4 : List UInt8 := [155, 0, 13, 21, 7, 21, 4, 161, 0, 6, 167, 0, 10, 21, 5, 62, 21, 7, 54, 4, 132, 5, 1]
abbrev dktX4_nearest_4 : List UInt8 := dkwX4_nearest_4 ++ dktX4_nearest_5
def dkwX4_nearest_3 : List UInt8 := [21, 6, 182, 1, 136, 182, 1, 93, 167, 0, 9, 42, 21, 6, 182, 1, 136, 130, 184, 1, 96, 54, 7, 29]
abbrev dktX4_nearest_3 : List UInt8 := dkwX4_nearest_3 ++ dktX4_nearest_4
def dkwX4_nearest_2 : List UInt8 := [17, 0, 216, 46, 112, 54, 6, 27, 21, 5, 42, 180, 0, 77, 17, 0, 216, 46, 162, 0, 16, 42, 42]
abbrev dktX4_nearest_2 : List UInt8 := dkwX4_nearest_2 ++ dktX4_nearest_3
def dkwX4_nearest_1 : List UInt8 := [3, 54, 5, 21, 5, 5, 42, 180, 0, 77, 17, 0, 216, 46, 104, 162, 0, 82, 21, 5, 42, 180, 0, 77]
abbrev dktX4_nearest_1 : List UInt8 := dkwX4_nearest_1 ++ dktX4_nearest_2
def dkwX4_nearest_0 : List UInt8 := [42, 27, 182, 1, 102, 153, 0, 12, 28, 3, 5, 184, 1, 89, 154, 0, 5, 2, 172, 2, 62, 3, 54, 4]
abbrev dktX4_nearest_0 : List UInt8 := dkwX4_nearest_0 ++ dktX4_nearest_1
theorem dksX4_nearest_0 : cX4_nearest.data.toList.drop 0 = dktX4_nearest_0 := by decide +kernel
theorem dksX4_nearest_1 : cX4_nearest.data.toList.drop 24 = dktX4_nearest_1 := dk_seg dksX4_nearest_0 24 rfl rfl
theorem dksX4_nearest_2 : cX4_nearest.data.toList.drop 48 = dktX4_nearest_2 := dk_seg dksX4_nearest_1 24 rfl rfl
theorem dksX4_nearest_3 : cX4_nearest.data.toList.drop 71 = dktX4_nearest_3 := dk_seg dksX4_nearest_2 23 rfl rfl
theorem dksX4_nearest_4 : cX4_nearest.data.toList.drop 95 = dktX4_nearest_4 := dk_seg dksX4_nearest_3 24 rfl rfl
theorem dksX4_nearest_5 : cX4_nearest.data.toList.drop 118 = dktX4_nearest_5 := dk_seg dksX4_nearest_4 23 rfl rfl
theorem dksX4_nearest_6 : cX4_nearest.data.toList.drop 142 = dktX4_nearest_6 := dk_seg dksX4_nearest_5 24 rfl rfl
theorem dX4_nearest_0 : decode cX4_nearest 0 = .ok (.aload_n 0, 1) := dk_42 (dk_at dksX4_nearest_0 0 rfl rfl)
theorem dX4_nearest_1 : decode cX4_nearest 1 = .ok (.iload_n 1, 1) := dk_27 (dk_at dksX4_nearest_0 1 rfl rfl)
theorem dX4_nearest_2 : decode cX4_nearest 2 = .ok (.invokevirtual 358, 3) := dk_182 1 102 (dk_at dksX4_nearest_0 2 rfl rfl)
theorem dX4_nearest_5 : decode cX4_nearest 5 = .ok (.ifCond .eq 12, 3) := dk_153 0 12 (dk_at dksX4_nearest_0 5 rfl rfl)
theorem dX4_nearest_8 : decode cX4_nearest 8 = .ok (.iload_n 2, 1) := dk_28 (dk_at dksX4_nearest_0 8 rfl rfl)
theorem dX4_nearest_9 : decode cX4_nearest 9 = .ok (.iconst 0, 1) := dk_3 (dk_at dksX4_nearest_0 9 rfl rfl)
theorem dX4_nearest_10 : decode cX4_nearest 10 = .ok (.iconst 2, 1) := dk_5 (dk_at dksX4_nearest_0 10 rfl rfl)
theorem dX4_nearest_11 : decode cX4_nearest 11 = .ok (.invokestatic 345, 3) := dk_184 1 89 (dk_at dksX4_nearest_0 11 rfl rfl)
theorem dX4_nearest_14 : decode cX4_nearest 14 = .ok (.ifCond .ne 5, 3) := dk_154 0 5 (dk_at dksX4_nearest_0 14 rfl rfl)
theorem dX4_nearest_17 : decode cX4_nearest 17 = .ok (.iconst (-1), 1) := dk_2 (dk_at dksX4_nearest_0 17 rfl rfl)
theorem dX4_nearest_18 : decode cX4_nearest 18 = .ok (.ireturn, 1) := dk_172 (dk_at dksX4_nearest_0 18 rfl rfl)
theorem dX4_nearest_19 : decode cX4_nearest 19 = .ok (.iconst (-1), 1) := dk_2 (dk_at dksX4_nearest_0 19 rfl rfl)
theorem dX4_nearest_20 : decode cX4_nearest 20 = .ok (.istore_n 3, 1) := dk_62 (dk_at dksX4_nearest_0 20 rfl rfl)
theorem dX4_nearest_21 : decode cX4_nearest 21 = .ok (.iconst 0, 1) := dk_3 (dk_at dksX4_nearest_0 21 rfl rfl)
theorem dX4_nearest_22 : decode cX4_nearest 22 = .ok (.istore 4, 2) := dk_54 4 (dk_at dksX4_nearest_0 22 rfl rfl)
theorem dX4_nearest_24 : decode cX4_nearest 24 = .ok (.iconst 0, 1) := dk_3 (dk_at dksX4_nearest_1 0 rfl rfl)
theorem dX4_nearest_25 : decode cX4_nearest 25 = .ok (.istore 5, 2) := dk_54 5 (dk_at dksX4_nearest_1 1 rfl rfl)
theorem dX4_nearest_27 : decode cX4_nearest 27 = .ok (.iload 5, 2) := dk_21 5 (dk_at dksX4_nearest_1 3 rfl rfl)
theorem dX4_nearest_29 : decode cX4_nearest 29 = .ok (.iconst 2, 1) := dk_5 (dk_at dksX4_nearest_1 5 rfl rfl)
theorem dX4_nearest_30 : decode cX4_nearest 30 = .ok (.aload_n 0, 1) := dk_42 (dk_at dksX4_nearest_1 6 rfl rfl)
theorem dX4_nearest_31 : decode cX4_nearest 31 = .ok (.getfield 77, 3) := dk_180 0 77 (dk_at dksX4_nearest_1 7 rfl rfl)
theorem dX4_nearest_34 : decode cX4_nearest 34 = .ok (.sipush 216, 3) := dk_17 0 216 (dk_at dksX4_nearest_1 10 rfl rfl)
theorem dX4_nearest_37 : decode cX4_nearest 37 = .ok (.iaload, 1) := dk_46 (dk_at dksX4_nearest_1 13 rfl rfl)
theorem dX4_nearest_38 : decode cX4_nearest 38 = .ok (.imul, 1) := dk_104 (dk_at dksX4_nearest_1 14 rfl rfl)
theorem dX4_nearest_39 : decode cX4_nearest 39 = .ok (.if_icmp .ge 82, 3) := dk_162 0 82 (dk_at dksX4_nearest_1 15 rfl rfl)
theorem dX4_nearest_42 : decode cX4_nearest 42 = .ok (.iload 5, 2) := dk_21 5 (dk_at dksX4_nearest_1 18 rfl rfl)
theorem dX4_nearest_44 : decode cX4_nearest 44 = .ok (.aload_n 0, 1) := dk_42 (dk_at dksX4_nearest_1 20 rfl rfl)
theorem dX4_nearest_45 : decode cX4_nearest 45 = .ok (.getfield 77, 3) := dk_180 0 77 (dk_at dksX4_nearest_1 21 rfl rfl)
theorem dX4_nearest_48 : decode cX4_nearest 48 = .ok (.sipush 216, 3) := dk_17 0 216 (dk_at dksX4_nearest_2 0 rfl rfl)
theorem dX4_nearest_51 : decode cX4_nearest 51 = .ok (.iaload, 1) := dk_46 (dk_at dksX4_nearest_2 3 rfl rfl)
theorem dX4_nearest_52 : decode cX4_nearest 52 = .ok (.irem, 1) := dk_112 (dk_at dksX4_nearest_2 4 rfl rfl)
theorem dX4_nearest_53 : decode cX4_nearest 53 = .ok (.istore 6, 2) := dk_54 6 (dk_at dksX4_nearest_2 5 rfl rfl)
theorem dX4_nearest_55 : decode cX4_nearest 55 = .ok (.iload_n 1, 1) := dk_27 (dk_at dksX4_nearest_2 7 rfl rfl)
theorem dX4_nearest_56 : decode cX4_nearest 56 = .ok (.iload 5, 2) := dk_21 5 (dk_at dksX4_nearest_2 8 rfl rfl)
theorem dX4_nearest_58 : decode cX4_nearest 58 = .ok (.aload_n 0, 1) := dk_42 (dk_at dksX4_nearest_2 10 rfl rfl)
theorem dX4_nearest_59 : decode cX4_nearest 59 = .ok (.getfield 77, 3) := dk_180 0 77 (dk_at dksX4_nearest_2 11 rfl rfl)
theorem dX4_nearest_62 : decode cX4_nearest 62 = .ok (.sipush 216, 3) := dk_17 0 216 (dk_at dksX4_nearest_2 14 rfl rfl)
theorem dX4_nearest_65 : decode cX4_nearest 65 = .ok (.iaload, 1) := dk_46 (dk_at dksX4_nearest_2 17 rfl rfl)
theorem dX4_nearest_66 : decode cX4_nearest 66 = .ok (.if_icmp .ge 16, 3) := dk_162 0 16 (dk_at dksX4_nearest_2 18 rfl rfl)
theorem dX4_nearest_69 : decode cX4_nearest 69 = .ok (.aload_n 0, 1) := dk_42 (dk_at dksX4_nearest_2 21 rfl rfl)
theorem dX4_nearest_70 : decode cX4_nearest 70 = .ok (.aload_n 0, 1) := dk_42 (dk_at dksX4_nearest_2 22 rfl rfl)
theorem dX4_nearest_71 : decode cX4_nearest 71 = .ok (.iload 6, 2) := dk_21 6 (dk_at dksX4_nearest_3 0 rfl rfl)
theorem dX4_nearest_73 : decode cX4_nearest 73 = .ok (.invokevirtual 392, 3) := dk_182 1 136 (dk_at dksX4_nearest_3 2 rfl rfl)
theorem dX4_nearest_76 : decode cX4_nearest 76 = .ok (.invokevirtual 349, 3) := dk_182 1 93 (dk_at dksX4_nearest_3 5 rfl rfl)
theorem dX4_nearest_79 : decode cX4_nearest 79 = .ok (.goto 9, 3) := dk_167 0 9 (dk_at dksX4_nearest_3 8 rfl rfl)
theorem dX4_nearest_82 : decode cX4_nearest 82 = .ok (.aload_n 0, 1) := dk_42 (dk_at dksX4_nearest_3 11 rfl rfl)
theorem dX4_nearest_83 : decode cX4_nearest 83 = .ok (.iload 6, 2) := dk_21 6 (dk_at dksX4_nearest_3 12 rfl rfl)
theorem dX4_nearest_85 : decode cX4_nearest 85 = .ok (.invokevirtual 392, 3) := dk_182 1 136 (dk_at dksX4_nearest_3 14 rfl rfl)
theorem dX4_nearest_88 : decode cX4_nearest 88 = .ok (.ixor, 1) := dk_130 (dk_at dksX4_nearest_3 17 rfl rfl)
theorem dX4_nearest_89 : decode cX4_nearest 89 = .ok (.invokestatic 352, 3) := dk_184 1 96 (dk_at dksX4_nearest_3 18 rfl rfl)
theorem dX4_nearest_92 : decode cX4_nearest 92 = .ok (.istore 7, 2) := dk_54 7 (dk_at dksX4_nearest_3 21 rfl rfl)
theorem dX4_nearest_94 : decode cX4_nearest 94 = .ok (.iload_n 3, 1) := dk_29 (dk_at dksX4_nearest_3 23 rfl rfl)
theorem dX4_nearest_95 : decode cX4_nearest 95 = .ok (.ifCond .lt 13, 3) := dk_155 0 13 (dk_at dksX4_nearest_4 0 rfl rfl)
theorem dX4_nearest_98 : decode cX4_nearest 98 = .ok (.iload 7, 2) := dk_21 7 (dk_at dksX4_nearest_4 3 rfl rfl)
theorem dX4_nearest_100 : decode cX4_nearest 100 = .ok (.iload 4, 2) := dk_21 4 (dk_at dksX4_nearest_4 5 rfl rfl)
theorem dX4_nearest_102 : decode cX4_nearest 102 = .ok (.if_icmp .lt 6, 3) := dk_161 0 6 (dk_at dksX4_nearest_4 7 rfl rfl)
theorem dX4_nearest_105 : decode cX4_nearest 105 = .ok (.goto 10, 3) := dk_167 0 10 (dk_at dksX4_nearest_4 10 rfl rfl)
theorem dX4_nearest_108 : decode cX4_nearest 108 = .ok (.iload 5, 2) := dk_21 5 (dk_at dksX4_nearest_4 13 rfl rfl)
theorem dX4_nearest_110 : decode cX4_nearest 110 = .ok (.istore_n 3, 1) := dk_62 (dk_at dksX4_nearest_4 15 rfl rfl)
theorem dX4_nearest_111 : decode cX4_nearest 111 = .ok (.iload 7, 2) := dk_21 7 (dk_at dksX4_nearest_4 16 rfl rfl)
theorem dX4_nearest_113 : decode cX4_nearest 113 = .ok (.istore 4, 2) := dk_54 4 (dk_at dksX4_nearest_4 18 rfl rfl)
theorem dX4_nearest_115 : decode cX4_nearest 115 = .ok (.iinc 5 1, 3) := dk_132 5 1 (dk_at dksX4_nearest_4 20 rfl rfl)
theorem dX4_nearest_118 : decode cX4_nearest 118 = .ok (.goto (-91), 3) := dk_167 255 165 (dk_at dksX4_nearest_5 0 rfl rfl)
theorem dX4_nearest_121 : decode cX4_nearest 121 = .ok (.iload_n 2, 1) := dk_28 (dk_at dksX4_nearest_5 3 rfl rfl)
theorem dX4_nearest_122 : decode cX4_nearest 122 = .ok (.ifCond .ne 6, 3) := dk_154 0 6 (dk_at dksX4_nearest_5 4 rfl rfl)
theorem dX4_nearest_125 : decode cX4_nearest 125 = .ok (.iload 4, 2) := dk_21 4 (dk_at dksX4_nearest_5 7 rfl rfl)
theorem dX4_nearest_127 : decode cX4_nearest 127 = .ok (.ireturn, 1) := dk_172 (dk_at dksX4_nearest_5 9 rfl rfl)
theorem dX4_nearest_128 : decode cX4_nearest 128 = .ok (.iload_n 2, 1) := dk_28 (dk_at dksX4_nearest_5 10 rfl rfl)
theorem dX4_nearest_129 : decode cX4_nearest 129 = .ok (.iconst 1, 1) := dk_4 (dk_at dksX4_nearest_5 11 rfl rfl)
theorem dX4_nearest_130 : decode cX4_nearest 130 = .ok (.if_icmp .ne 16, 3) := dk_160 0 16 (dk_at dksX4_nearest_5 12 rfl rfl)
theorem dX4_nearest_133 : decode cX4_nearest 133 = .ok (.iload_n 3, 1) := dk_29 (dk_at dksX4_nearest_5 15 rfl rfl)
theorem dX4_nearest_134 : decode cX4_nearest 134 = .ok (.aload_n 0, 1) := dk_42 (dk_at dksX4_nearest_5 16 rfl rfl)
theorem dX4_nearest_135 : decode cX4_nearest 135 = .ok (.getfield 77, 3) := dk_180 0 77 (dk_at dksX4_nearest_5 17 rfl rfl)
theorem dX4_nearest_138 : decode cX4_nearest 138 = .ok (.sipush 216, 3) := dk_17 0 216 (dk_at dksX4_nearest_5 20 rfl rfl)
theorem dX4_nearest_141 : decode cX4_nearest 141 = .ok (.iaload, 1) := dk_46 (dk_at dksX4_nearest_5 23 rfl rfl)
theorem dX4_nearest_142 : decode cX4_nearest 142 = .ok (.irem, 1) := dk_112 (dk_at dksX4_nearest_6 0 rfl rfl)
theorem dX4_nearest_143 : decode cX4_nearest 143 = .ok (.goto 13, 3) := dk_167 0 13 (dk_at dksX4_nearest_6 1 rfl rfl)
theorem dX4_nearest_146 : decode cX4_nearest 146 = .ok (.iload_n 3, 1) := dk_29 (dk_at dksX4_nearest_6 4 rfl rfl)
theorem dX4_nearest_147 : decode cX4_nearest 147 = .ok (.aload_n 0, 1) := dk_42 (dk_at dksX4_nearest_6 5 rfl rfl)
theorem dX4_nearest_148 : decode cX4_nearest 148 = .ok (.getfield 77, 3) := dk_180 0 77 (dk_at dksX4_nearest_6 6 rfl rfl)
theorem dX4_nearest_151 : decode cX4_nearest 151 = .ok (.sipush 216, 3) := dk_17 0 216 (dk_at dksX4_nearest_6 9 rfl rfl)
theorem dX4_nearest_154 : decode cX4_nearest 154 = .ok (.iaload, 1) := dk_46 (dk_at dksX4_nearest_6 12 rfl rfl)
theorem dX4_nearest_155 : decode cX4_nearest 155 = .ok (.idiv, 1) := dk_108 (dk_at dksX4_nearest_6 13 rfl rfl)
theorem dX4_nearest_156 : decode cX4_nearest 156 = .ok (.ireturn, 1) := dk_172 (dk_at dksX4_nearest_6 14 rfl rfl)
abbrev cX4_common : ByteArray := prog_27_method_82_code
def yX4_common : MethodName := ⟨RX4, "common", "(I)I"⟩
def dkwX4_common_5 : List UInt8 := [172]
abbrev dktX4_common_5 : List UInt8 := dkwX4_common_5 ++ []
def dkwX4_common_4 : List UInt8 := [160, 0, 23, 28, 42, 180, 0, 77, 16, 96, 6, 29, 104, 96, 46, 126, 61, 132, 3, 1, 167, 255, 222, 28]
abbrev dktX4_common_4 : List UInt8 := dkwX4_common_4 ++ dktX4_common_5
def dkwX4_common_3 : List UInt8 := [61, 132, 3, 1, 167, 255, 214, 3, 62, 29, 42, 180, 0, 77, 17, 0, 217, 46, 162, 0, 28, 27, 5]
abbrev dktX4_common_3 : List UInt8 := dkwX4_common_3 ++ dktX4_common_4
def dkwX4_common_2 : List UInt8 := [162, 0, 31, 27, 154, 0, 13, 28, 42, 29, 182, 1, 136, 126, 167, 0, 10, 28, 42, 29, 182, 1, 136, 128]
abbrev dktX4_common_2 : List UInt8 := dkwX4_common_2 ++ dktX4_common_3
def dkwX4_common_1 : List UInt8 := [182, 1, 86, 120, 4, 100, 61, 3, 62, 29, 42, 180, 0, 77, 17, 0, 216, 46, 162, 0, 36, 27, 5]
abbrev dktX4_common_1 : List UInt8 := dkwX4_common_1 ++ dktX4_common_2
def dkwX4_common_0 : List UInt8 := [27, 3, 5, 184, 1, 89, 154, 0, 5, 2, 172, 27, 4, 160, 0, 7, 3, 167, 0, 11, 4, 42]
abbrev dktX4_common_0 : List UInt8 := dkwX4_common_0 ++ dktX4_common_1
theorem dksX4_common_0 : cX4_common.data.toList.drop 0 = dktX4_common_0 := by decide +kernel
theorem dksX4_common_1 : cX4_common.data.toList.drop 22 = dktX4_common_1 := dk_seg dksX4_common_0 22 rfl rfl
theorem dksX4_common_2 : cX4_common.data.toList.drop 45 = dktX4_common_2 := dk_seg dksX4_common_1 23 rfl rfl
theorem dksX4_common_3 : cX4_common.data.toList.drop 69 = dktX4_common_3 := dk_seg dksX4_common_2 24 rfl rfl
theorem dksX4_common_4 : cX4_common.data.toList.drop 92 = dktX4_common_4 := dk_seg dksX4_common_3 23 rfl rfl
theorem dksX4_common_5 : cX4_common.data.toList.drop 116 = dktX4_common_5 := dk_seg dksX4_common_4 24 rfl rfl
theorem dX4_common_0 : decode cX4_common 0 = .ok (.iload_n 1, 1) := dk_27 (dk_at dksX4_common_0 0 rfl rfl)
theorem dX4_common_1 : decode cX4_common 1 = .ok (.iconst 0, 1) := dk_3 (dk_at dksX4_common_0 1 rfl rfl)
theorem dX4_common_2 : decode cX4_common 2 = .ok (.iconst 2, 1) := dk_5 (dk_at dksX4_common_0 2 rfl rfl)
theorem dX4_common_3 : decode cX4_common 3 = .ok (.invokestatic 345, 3) := dk_184 1 89 (dk_at dksX4_common_0 3 rfl rfl)
theorem dX4_common_6 : decode cX4_common 6 = .ok (.ifCond .ne 5, 3) := dk_154 0 5 (dk_at dksX4_common_0 6 rfl rfl)
theorem dX4_common_9 : decode cX4_common 9 = .ok (.iconst (-1), 1) := dk_2 (dk_at dksX4_common_0 9 rfl rfl)
theorem dX4_common_10 : decode cX4_common 10 = .ok (.ireturn, 1) := dk_172 (dk_at dksX4_common_0 10 rfl rfl)
theorem dX4_common_11 : decode cX4_common 11 = .ok (.iload_n 1, 1) := dk_27 (dk_at dksX4_common_0 11 rfl rfl)
theorem dX4_common_12 : decode cX4_common 12 = .ok (.iconst 1, 1) := dk_4 (dk_at dksX4_common_0 12 rfl rfl)
theorem dX4_common_13 : decode cX4_common 13 = .ok (.if_icmp .ne 7, 3) := dk_160 0 7 (dk_at dksX4_common_0 13 rfl rfl)
theorem dX4_common_16 : decode cX4_common 16 = .ok (.iconst 0, 1) := dk_3 (dk_at dksX4_common_0 16 rfl rfl)
theorem dX4_common_17 : decode cX4_common 17 = .ok (.goto 11, 3) := dk_167 0 11 (dk_at dksX4_common_0 17 rfl rfl)
theorem dX4_common_20 : decode cX4_common 20 = .ok (.iconst 1, 1) := dk_4 (dk_at dksX4_common_0 20 rfl rfl)
theorem dX4_common_21 : decode cX4_common 21 = .ok (.aload_n 0, 1) := dk_42 (dk_at dksX4_common_0 21 rfl rfl)
theorem dX4_common_22 : decode cX4_common 22 = .ok (.invokevirtual 342, 3) := dk_182 1 86 (dk_at dksX4_common_1 0 rfl rfl)
theorem dX4_common_25 : decode cX4_common 25 = .ok (.ishl, 1) := dk_120 (dk_at dksX4_common_1 3 rfl rfl)
theorem dX4_common_26 : decode cX4_common 26 = .ok (.iconst 1, 1) := dk_4 (dk_at dksX4_common_1 4 rfl rfl)
theorem dX4_common_27 : decode cX4_common 27 = .ok (.isub, 1) := dk_100 (dk_at dksX4_common_1 5 rfl rfl)
theorem dX4_common_28 : decode cX4_common 28 = .ok (.istore_n 2, 1) := dk_61 (dk_at dksX4_common_1 6 rfl rfl)
theorem dX4_common_29 : decode cX4_common 29 = .ok (.iconst 0, 1) := dk_3 (dk_at dksX4_common_1 7 rfl rfl)
theorem dX4_common_30 : decode cX4_common 30 = .ok (.istore_n 3, 1) := dk_62 (dk_at dksX4_common_1 8 rfl rfl)
theorem dX4_common_31 : decode cX4_common 31 = .ok (.iload_n 3, 1) := dk_29 (dk_at dksX4_common_1 9 rfl rfl)
theorem dX4_common_32 : decode cX4_common 32 = .ok (.aload_n 0, 1) := dk_42 (dk_at dksX4_common_1 10 rfl rfl)
theorem dX4_common_33 : decode cX4_common 33 = .ok (.getfield 77, 3) := dk_180 0 77 (dk_at dksX4_common_1 11 rfl rfl)
theorem dX4_common_36 : decode cX4_common 36 = .ok (.sipush 216, 3) := dk_17 0 216 (dk_at dksX4_common_1 14 rfl rfl)
theorem dX4_common_39 : decode cX4_common 39 = .ok (.iaload, 1) := dk_46 (dk_at dksX4_common_1 17 rfl rfl)
theorem dX4_common_40 : decode cX4_common 40 = .ok (.if_icmp .ge 36, 3) := dk_162 0 36 (dk_at dksX4_common_1 18 rfl rfl)
theorem dX4_common_43 : decode cX4_common 43 = .ok (.iload_n 1, 1) := dk_27 (dk_at dksX4_common_1 21 rfl rfl)
theorem dX4_common_44 : decode cX4_common 44 = .ok (.iconst 2, 1) := dk_5 (dk_at dksX4_common_1 22 rfl rfl)
theorem dX4_common_45 : decode cX4_common 45 = .ok (.if_icmp .ge 31, 3) := dk_162 0 31 (dk_at dksX4_common_2 0 rfl rfl)
theorem dX4_common_48 : decode cX4_common 48 = .ok (.iload_n 1, 1) := dk_27 (dk_at dksX4_common_2 3 rfl rfl)
theorem dX4_common_49 : decode cX4_common 49 = .ok (.ifCond .ne 13, 3) := dk_154 0 13 (dk_at dksX4_common_2 4 rfl rfl)
theorem dX4_common_52 : decode cX4_common 52 = .ok (.iload_n 2, 1) := dk_28 (dk_at dksX4_common_2 7 rfl rfl)
theorem dX4_common_53 : decode cX4_common 53 = .ok (.aload_n 0, 1) := dk_42 (dk_at dksX4_common_2 8 rfl rfl)
theorem dX4_common_54 : decode cX4_common 54 = .ok (.iload_n 3, 1) := dk_29 (dk_at dksX4_common_2 9 rfl rfl)
theorem dX4_common_55 : decode cX4_common 55 = .ok (.invokevirtual 392, 3) := dk_182 1 136 (dk_at dksX4_common_2 10 rfl rfl)
theorem dX4_common_58 : decode cX4_common 58 = .ok (.iand, 1) := dk_126 (dk_at dksX4_common_2 13 rfl rfl)
theorem dX4_common_59 : decode cX4_common 59 = .ok (.goto 10, 3) := dk_167 0 10 (dk_at dksX4_common_2 14 rfl rfl)
theorem dX4_common_62 : decode cX4_common 62 = .ok (.iload_n 2, 1) := dk_28 (dk_at dksX4_common_2 17 rfl rfl)
theorem dX4_common_63 : decode cX4_common 63 = .ok (.aload_n 0, 1) := dk_42 (dk_at dksX4_common_2 18 rfl rfl)
theorem dX4_common_64 : decode cX4_common 64 = .ok (.iload_n 3, 1) := dk_29 (dk_at dksX4_common_2 19 rfl rfl)
theorem dX4_common_65 : decode cX4_common 65 = .ok (.invokevirtual 392, 3) := dk_182 1 136 (dk_at dksX4_common_2 20 rfl rfl)
theorem dX4_common_68 : decode cX4_common 68 = .ok (.ior, 1) := dk_128 (dk_at dksX4_common_2 23 rfl rfl)
theorem dX4_common_69 : decode cX4_common 69 = .ok (.istore_n 2, 1) := dk_61 (dk_at dksX4_common_3 0 rfl rfl)
theorem dX4_common_70 : decode cX4_common 70 = .ok (.iinc 3 1, 3) := dk_132 3 1 (dk_at dksX4_common_3 1 rfl rfl)
theorem dX4_common_73 : decode cX4_common 73 = .ok (.goto (-42), 3) := dk_167 255 214 (dk_at dksX4_common_3 4 rfl rfl)
theorem dX4_common_76 : decode cX4_common 76 = .ok (.iconst 0, 1) := dk_3 (dk_at dksX4_common_3 7 rfl rfl)
theorem dX4_common_77 : decode cX4_common 77 = .ok (.istore_n 3, 1) := dk_62 (dk_at dksX4_common_3 8 rfl rfl)
theorem dX4_common_78 : decode cX4_common 78 = .ok (.iload_n 3, 1) := dk_29 (dk_at dksX4_common_3 9 rfl rfl)
theorem dX4_common_79 : decode cX4_common 79 = .ok (.aload_n 0, 1) := dk_42 (dk_at dksX4_common_3 10 rfl rfl)
theorem dX4_common_80 : decode cX4_common 80 = .ok (.getfield 77, 3) := dk_180 0 77 (dk_at dksX4_common_3 11 rfl rfl)
theorem dX4_common_83 : decode cX4_common 83 = .ok (.sipush 217, 3) := dk_17 0 217 (dk_at dksX4_common_3 14 rfl rfl)
theorem dX4_common_86 : decode cX4_common 86 = .ok (.iaload, 1) := dk_46 (dk_at dksX4_common_3 17 rfl rfl)
theorem dX4_common_87 : decode cX4_common 87 = .ok (.if_icmp .ge 28, 3) := dk_162 0 28 (dk_at dksX4_common_3 18 rfl rfl)
theorem dX4_common_90 : decode cX4_common 90 = .ok (.iload_n 1, 1) := dk_27 (dk_at dksX4_common_3 21 rfl rfl)
theorem dX4_common_91 : decode cX4_common 91 = .ok (.iconst 2, 1) := dk_5 (dk_at dksX4_common_3 22 rfl rfl)
theorem dX4_common_92 : decode cX4_common 92 = .ok (.if_icmp .ne 23, 3) := dk_160 0 23 (dk_at dksX4_common_4 0 rfl rfl)
theorem dX4_common_95 : decode cX4_common 95 = .ok (.iload_n 2, 1) := dk_28 (dk_at dksX4_common_4 3 rfl rfl)
theorem dX4_common_96 : decode cX4_common 96 = .ok (.aload_n 0, 1) := dk_42 (dk_at dksX4_common_4 4 rfl rfl)
theorem dX4_common_97 : decode cX4_common 97 = .ok (.getfield 77, 3) := dk_180 0 77 (dk_at dksX4_common_4 5 rfl rfl)
theorem dX4_common_100 : decode cX4_common 100 = .ok (.bipush 96, 2) := dk_16 96 (dk_at dksX4_common_4 8 rfl rfl)
theorem dX4_common_102 : decode cX4_common 102 = .ok (.iconst 3, 1) := dk_6 (dk_at dksX4_common_4 10 rfl rfl)
theorem dX4_common_103 : decode cX4_common 103 = .ok (.iload_n 3, 1) := dk_29 (dk_at dksX4_common_4 11 rfl rfl)
theorem dX4_common_104 : decode cX4_common 104 = .ok (.imul, 1) := dk_104 (dk_at dksX4_common_4 12 rfl rfl)
theorem dX4_common_105 : decode cX4_common 105 = .ok (.iadd, 1) := dk_96 (dk_at dksX4_common_4 13 rfl rfl)
theorem dX4_common_106 : decode cX4_common 106 = .ok (.iaload, 1) := dk_46 (dk_at dksX4_common_4 14 rfl rfl)
theorem dX4_common_107 : decode cX4_common 107 = .ok (.iand, 1) := dk_126 (dk_at dksX4_common_4 15 rfl rfl)
theorem dX4_common_108 : decode cX4_common 108 = .ok (.istore_n 2, 1) := dk_61 (dk_at dksX4_common_4 16 rfl rfl)
theorem dX4_common_109 : decode cX4_common 109 = .ok (.iinc 3 1, 3) := dk_132 3 1 (dk_at dksX4_common_4 17 rfl rfl)
theorem dX4_common_112 : decode cX4_common 112 = .ok (.goto (-34), 3) := dk_167 255 222 (dk_at dksX4_common_4 20 rfl rfl)
theorem dX4_common_115 : decode cX4_common 115 = .ok (.iload_n 2, 1) := dk_28 (dk_at dksX4_common_4 23 rfl rfl)
theorem dX4_common_116 : decode cX4_common 116 = .ok (.ireturn, 1) := dk_172 (dk_at dksX4_common_5 0 rfl rfl)
abbrev cX4_alike : ByteArray := prog_27_method_83_code
def yX4_alike : MethodName := ⟨RX4, "alike", "(IZ)I"⟩
def dkwX4_alike_2 : List UInt8 := [182, 1, 136, 27, 160, 0, 10, 29, 4, 21, 4, 120, 128, 62, 132, 4, 1, 167, 255, 206, 29, 172]
abbrev dktX4_alike_2 : List UInt8 := dkwX4_alike_2 ++ []
def dkwX4_alike_1 : List UInt8 := [46, 162, 0, 43, 28, 153, 0, 16, 42, 42, 21, 4, 182, 1, 136, 182, 1, 93, 167, 0, 9, 42, 21, 4]
abbrev dktX4_alike_1 : List UInt8 := dkwX4_alike_1 ++ dktX4_alike_2
def dkwX4_alike_0 : List UInt8 := [42, 27, 182, 1, 102, 154, 0, 5, 2, 172, 3, 62, 3, 54, 4, 21, 4, 42, 180, 0, 77, 17, 0, 216]
abbrev dktX4_alike_0 : List UInt8 := dkwX4_alike_0 ++ dktX4_alike_1
theorem dksX4_alike_0 : cX4_alike.data.toList.drop 0 = dktX4_alike_0 := by decide +kernel
theorem dksX4_alike_1 : cX4_alike.data.toList.drop 24 = dktX4_alike_1 := dk_seg dksX4_alike_0 24 rfl rfl
theorem dksX4_alike_2 : cX4_alike.data.toList.drop 48 = dktX4_alike_2 := dk_seg dksX4_alike_1 24 rfl rfl
theorem dX4_alike_0 : decode cX4_alike 0 = .ok (.aload_n 0, 1) := dk_42 (dk_at dksX4_alike_0 0 rfl rfl)
theorem dX4_alike_1 : decode cX4_alike 1 = .ok (.iload_n 1, 1) := dk_27 (dk_at dksX4_alike_0 1 rfl rfl)
theorem dX4_alike_2 : decode cX4_alike 2 = .ok (.invokevirtual 358, 3) := dk_182 1 102 (dk_at dksX4_alike_0 2 rfl rfl)
theorem dX4_alike_5 : decode cX4_alike 5 = .ok (.ifCond .ne 5, 3) := dk_154 0 5 (dk_at dksX4_alike_0 5 rfl rfl)
theorem dX4_alike_8 : decode cX4_alike 8 = .ok (.iconst (-1), 1) := dk_2 (dk_at dksX4_alike_0 8 rfl rfl)
theorem dX4_alike_9 : decode cX4_alike 9 = .ok (.ireturn, 1) := dk_172 (dk_at dksX4_alike_0 9 rfl rfl)
theorem dX4_alike_10 : decode cX4_alike 10 = .ok (.iconst 0, 1) := dk_3 (dk_at dksX4_alike_0 10 rfl rfl)
theorem dX4_alike_11 : decode cX4_alike 11 = .ok (.istore_n 3, 1) := dk_62 (dk_at dksX4_alike_0 11 rfl rfl)
theorem dX4_alike_12 : decode cX4_alike 12 = .ok (.iconst 0, 1) := dk_3 (dk_at dksX4_alike_0 12 rfl rfl)
theorem dX4_alike_13 : decode cX4_alike 13 = .ok (.istore 4, 2) := dk_54 4 (dk_at dksX4_alike_0 13 rfl rfl)
theorem dX4_alike_15 : decode cX4_alike 15 = .ok (.iload 4, 2) := dk_21 4 (dk_at dksX4_alike_0 15 rfl rfl)
theorem dX4_alike_17 : decode cX4_alike 17 = .ok (.aload_n 0, 1) := dk_42 (dk_at dksX4_alike_0 17 rfl rfl)
theorem dX4_alike_18 : decode cX4_alike 18 = .ok (.getfield 77, 3) := dk_180 0 77 (dk_at dksX4_alike_0 18 rfl rfl)
theorem dX4_alike_21 : decode cX4_alike 21 = .ok (.sipush 216, 3) := dk_17 0 216 (dk_at dksX4_alike_0 21 rfl rfl)
theorem dX4_alike_24 : decode cX4_alike 24 = .ok (.iaload, 1) := dk_46 (dk_at dksX4_alike_1 0 rfl rfl)
theorem dX4_alike_25 : decode cX4_alike 25 = .ok (.if_icmp .ge 43, 3) := dk_162 0 43 (dk_at dksX4_alike_1 1 rfl rfl)
theorem dX4_alike_28 : decode cX4_alike 28 = .ok (.iload_n 2, 1) := dk_28 (dk_at dksX4_alike_1 4 rfl rfl)
theorem dX4_alike_29 : decode cX4_alike 29 = .ok (.ifCond .eq 16, 3) := dk_153 0 16 (dk_at dksX4_alike_1 5 rfl rfl)
theorem dX4_alike_32 : decode cX4_alike 32 = .ok (.aload_n 0, 1) := dk_42 (dk_at dksX4_alike_1 8 rfl rfl)
theorem dX4_alike_33 : decode cX4_alike 33 = .ok (.aload_n 0, 1) := dk_42 (dk_at dksX4_alike_1 9 rfl rfl)
theorem dX4_alike_34 : decode cX4_alike 34 = .ok (.iload 4, 2) := dk_21 4 (dk_at dksX4_alike_1 10 rfl rfl)
theorem dX4_alike_36 : decode cX4_alike 36 = .ok (.invokevirtual 392, 3) := dk_182 1 136 (dk_at dksX4_alike_1 12 rfl rfl)
theorem dX4_alike_39 : decode cX4_alike 39 = .ok (.invokevirtual 349, 3) := dk_182 1 93 (dk_at dksX4_alike_1 15 rfl rfl)
theorem dX4_alike_42 : decode cX4_alike 42 = .ok (.goto 9, 3) := dk_167 0 9 (dk_at dksX4_alike_1 18 rfl rfl)
theorem dX4_alike_45 : decode cX4_alike 45 = .ok (.aload_n 0, 1) := dk_42 (dk_at dksX4_alike_1 21 rfl rfl)
theorem dX4_alike_46 : decode cX4_alike 46 = .ok (.iload 4, 2) := dk_21 4 (dk_at dksX4_alike_1 22 rfl rfl)
theorem dX4_alike_48 : decode cX4_alike 48 = .ok (.invokevirtual 392, 3) := dk_182 1 136 (dk_at dksX4_alike_2 0 rfl rfl)
theorem dX4_alike_51 : decode cX4_alike 51 = .ok (.iload_n 1, 1) := dk_27 (dk_at dksX4_alike_2 3 rfl rfl)
theorem dX4_alike_52 : decode cX4_alike 52 = .ok (.if_icmp .ne 10, 3) := dk_160 0 10 (dk_at dksX4_alike_2 4 rfl rfl)
theorem dX4_alike_55 : decode cX4_alike 55 = .ok (.iload_n 3, 1) := dk_29 (dk_at dksX4_alike_2 7 rfl rfl)
theorem dX4_alike_56 : decode cX4_alike 56 = .ok (.iconst 1, 1) := dk_4 (dk_at dksX4_alike_2 8 rfl rfl)
theorem dX4_alike_57 : decode cX4_alike 57 = .ok (.iload 4, 2) := dk_21 4 (dk_at dksX4_alike_2 9 rfl rfl)
theorem dX4_alike_59 : decode cX4_alike 59 = .ok (.ishl, 1) := dk_120 (dk_at dksX4_alike_2 11 rfl rfl)
theorem dX4_alike_60 : decode cX4_alike 60 = .ok (.ior, 1) := dk_128 (dk_at dksX4_alike_2 12 rfl rfl)
theorem dX4_alike_61 : decode cX4_alike 61 = .ok (.istore_n 3, 1) := dk_62 (dk_at dksX4_alike_2 13 rfl rfl)
theorem dX4_alike_62 : decode cX4_alike 62 = .ok (.iinc 4 1, 3) := dk_132 4 1 (dk_at dksX4_alike_2 14 rfl rfl)
theorem dX4_alike_65 : decode cX4_alike 65 = .ok (.goto (-50), 3) := dk_167 255 206 (dk_at dksX4_alike_2 17 rfl rfl)
theorem dX4_alike_68 : decode cX4_alike 68 = .ok (.iload_n 3, 1) := dk_29 (dk_at dksX4_alike_2 20 rfl rfl)
theorem dX4_alike_69 : decode cX4_alike 69 = .ok (.ireturn, 1) := dk_172 (dk_at dksX4_alike_2 21 rfl rfl)
abbrev cX4_wax : ByteArray := prog_27_method_86_code
def yX4_wax : MethodName := ⟨RX4, "wax", "(I)I"⟩
def dkwX4_wax_10 : List UInt8 := [104, 21, 6, 96, 46, 54, 4, 132, 5, 255, 167, 255, 130, 29, 172]
abbrev dktX4_wax_10 : List UInt8 := dkwX4_wax_10 ++ []
def dkwX4_wax_9 : List UInt8 := [21, 6, 7, 112, 96, 79, 42, 89, 180, 1, 124, 4, 96, 181, 1, 124, 42, 180, 0, 102, 16, 16, 21, 4]
abbrev dktX4_wax_9 : List UInt8 := dkwX4_wax_9 ++ dktX4_wax_10
def dkwX4_wax_8 : List UInt8 := [159, 0, 9, 132, 6, 1, 167, 255, 202, 42, 180, 0, 92, 42, 180, 1, 124, 16, 10, 21, 6, 7, 108, 104]
abbrev dktX4_wax_8 : List UInt8 := dkwX4_wax_8 ++ dktX4_wax_9
def dkwX4_wax_7 : List UInt8 := [96, 46, 4, 96, 21, 6, 7, 112, 96, 42, 180, 0, 98, 17, 16, 0, 21, 5, 104, 21, 4, 96, 46]
abbrev dktX4_wax_7 : List UInt8 := dkwX4_wax_7 ++ dktX4_wax_8
def dkwX4_wax_6 : List UInt8 := [180, 0, 98, 17, 16, 0, 21, 5, 4, 100, 104, 42, 180, 0, 102, 16, 16, 21, 4, 104, 21, 6, 96, 46]
abbrev dktX4_wax_6 : List UInt8 := dkwX4_wax_6 ++ dktX4_wax_7
def dkwX4_wax_5 : List UInt8 := [7, 54, 5, 42, 180, 0, 98, 17, 16, 0, 21, 5, 104, 21, 4, 96, 46, 158, 0, 115, 3, 54, 6, 42]
abbrev dktX4_wax_5 : List UInt8 := dkwX4_wax_5 ++ dktX4_wax_6
def dkwX4_wax_4 : List UInt8 := [161, 0, 5, 2, 172, 42, 180, 0, 92, 3, 28, 79, 42, 4, 181, 1, 124, 42, 28, 182, 1, 136, 54, 4]
abbrev dktX4_wax_4 : List UInt8 := dkwX4_wax_4 ++ dktX4_wax_5
def dkwX4_wax_3 : List UInt8 := [167, 255, 208, 42, 180, 0, 98, 17, 64, 0, 42, 28, 182, 1, 136, 96, 46, 62, 29, 19, 1, 160]
abbrev dktX4_wax_3 : List UInt8 := dkwX4_wax_3 ++ dktX4_wax_4
def dkwX4_wax_2 : List UInt8 := [96, 46, 42, 180, 0, 98, 17, 64, 0, 42, 28, 182, 1, 136, 96, 46, 162, 0, 5, 29, 61, 132, 3, 1]
abbrev dktX4_wax_2 : List UInt8 := dkwX4_wax_2 ++ dktX4_wax_3
def dkwX4_wax_1 : List UInt8 := [29, 42, 180, 0, 77, 17, 0, 216, 46, 162, 0, 42, 42, 180, 0, 98, 17, 64, 0, 42, 29, 182, 1, 136]
abbrev dktX4_wax_1 : List UInt8 := dkwX4_wax_1 ++ dktX4_wax_2
def dkwX4_wax_0 : List UInt8 := [42, 3, 181, 1, 124, 42, 27, 182, 1, 102, 154, 0, 5, 2, 172, 42, 27, 182, 1, 161, 3, 61, 4, 62]
abbrev dktX4_wax_0 : List UInt8 := dkwX4_wax_0 ++ dktX4_wax_1
theorem dksX4_wax_0 : cX4_wax.data.toList.drop 0 = dktX4_wax_0 := by decide +kernel
theorem dksX4_wax_1 : cX4_wax.data.toList.drop 24 = dktX4_wax_1 := dk_seg dksX4_wax_0 24 rfl rfl
theorem dksX4_wax_2 : cX4_wax.data.toList.drop 48 = dktX4_wax_2 := dk_seg dksX4_wax_1 24 rfl rfl
theorem dksX4_wax_3 : cX4_wax.data.toList.drop 72 = dktX4_wax_3 := dk_seg dksX4_wax_2 24 rfl rfl
theorem dksX4_wax_4 : cX4_wax.data.toList.drop 94 = dktX4_wax_4 := dk_seg dksX4_wax_3 22 rfl rfl
theorem dksX4_wax_5 : cX4_wax.data.toList.drop 118 = dktX4_wax_5 := dk_seg dksX4_wax_4 24 rfl rfl
theorem dksX4_wax_6 : cX4_wax.data.toList.drop 142 = dktX4_wax_6 := dk_seg dksX4_wax_5 24 rfl rfl
theorem dksX4_wax_7 : cX4_wax.data.toList.drop 166 = dktX4_wax_7 := dk_seg dksX4_wax_6 24 rfl rfl
theorem dksX4_wax_8 : cX4_wax.data.toList.drop 189 = dktX4_wax_8 := dk_seg dksX4_wax_7 23 rfl rfl
theorem dksX4_wax_9 : cX4_wax.data.toList.drop 213 = dktX4_wax_9 := dk_seg dksX4_wax_8 24 rfl rfl
theorem dksX4_wax_10 : cX4_wax.data.toList.drop 237 = dktX4_wax_10 := dk_seg dksX4_wax_9 24 rfl rfl
theorem dX4_wax_0 : decode cX4_wax 0 = .ok (.aload_n 0, 1) := dk_42 (dk_at dksX4_wax_0 0 rfl rfl)
theorem dX4_wax_1 : decode cX4_wax 1 = .ok (.iconst 0, 1) := dk_3 (dk_at dksX4_wax_0 1 rfl rfl)
theorem dX4_wax_2 : decode cX4_wax 2 = .ok (.putfield 380, 3) := dk_181 1 124 (dk_at dksX4_wax_0 2 rfl rfl)
theorem dX4_wax_5 : decode cX4_wax 5 = .ok (.aload_n 0, 1) := dk_42 (dk_at dksX4_wax_0 5 rfl rfl)
theorem dX4_wax_6 : decode cX4_wax 6 = .ok (.iload_n 1, 1) := dk_27 (dk_at dksX4_wax_0 6 rfl rfl)
theorem dX4_wax_7 : decode cX4_wax 7 = .ok (.invokevirtual 358, 3) := dk_182 1 102 (dk_at dksX4_wax_0 7 rfl rfl)
theorem dX4_wax_10 : decode cX4_wax 10 = .ok (.ifCond .ne 5, 3) := dk_154 0 5 (dk_at dksX4_wax_0 10 rfl rfl)
theorem dX4_wax_13 : decode cX4_wax 13 = .ok (.iconst (-1), 1) := dk_2 (dk_at dksX4_wax_0 13 rfl rfl)
theorem dX4_wax_14 : decode cX4_wax 14 = .ok (.ireturn, 1) := dk_172 (dk_at dksX4_wax_0 14 rfl rfl)
theorem dX4_wax_15 : decode cX4_wax 15 = .ok (.aload_n 0, 1) := dk_42 (dk_at dksX4_wax_0 15 rfl rfl)
theorem dX4_wax_16 : decode cX4_wax 16 = .ok (.iload_n 1, 1) := dk_27 (dk_at dksX4_wax_0 16 rfl rfl)
theorem dX4_wax_17 : decode cX4_wax 17 = .ok (.invokevirtual 417, 3) := dk_182 1 161 (dk_at dksX4_wax_0 17 rfl rfl)
theorem dX4_wax_20 : decode cX4_wax 20 = .ok (.iconst 0, 1) := dk_3 (dk_at dksX4_wax_0 20 rfl rfl)
theorem dX4_wax_21 : decode cX4_wax 21 = .ok (.istore_n 2, 1) := dk_61 (dk_at dksX4_wax_0 21 rfl rfl)
theorem dX4_wax_22 : decode cX4_wax 22 = .ok (.iconst 1, 1) := dk_4 (dk_at dksX4_wax_0 22 rfl rfl)
theorem dX4_wax_23 : decode cX4_wax 23 = .ok (.istore_n 3, 1) := dk_62 (dk_at dksX4_wax_0 23 rfl rfl)
theorem dX4_wax_24 : decode cX4_wax 24 = .ok (.iload_n 3, 1) := dk_29 (dk_at dksX4_wax_1 0 rfl rfl)
theorem dX4_wax_25 : decode cX4_wax 25 = .ok (.aload_n 0, 1) := dk_42 (dk_at dksX4_wax_1 1 rfl rfl)
theorem dX4_wax_26 : decode cX4_wax 26 = .ok (.getfield 77, 3) := dk_180 0 77 (dk_at dksX4_wax_1 2 rfl rfl)
theorem dX4_wax_29 : decode cX4_wax 29 = .ok (.sipush 216, 3) := dk_17 0 216 (dk_at dksX4_wax_1 5 rfl rfl)
theorem dX4_wax_32 : decode cX4_wax 32 = .ok (.iaload, 1) := dk_46 (dk_at dksX4_wax_1 8 rfl rfl)
theorem dX4_wax_33 : decode cX4_wax 33 = .ok (.if_icmp .ge 42, 3) := dk_162 0 42 (dk_at dksX4_wax_1 9 rfl rfl)
theorem dX4_wax_36 : decode cX4_wax 36 = .ok (.aload_n 0, 1) := dk_42 (dk_at dksX4_wax_1 12 rfl rfl)
theorem dX4_wax_37 : decode cX4_wax 37 = .ok (.getfield 98, 3) := dk_180 0 98 (dk_at dksX4_wax_1 13 rfl rfl)
theorem dX4_wax_40 : decode cX4_wax 40 = .ok (.sipush 16384, 3) := dk_17 64 0 (dk_at dksX4_wax_1 16 rfl rfl)
theorem dX4_wax_43 : decode cX4_wax 43 = .ok (.aload_n 0, 1) := dk_42 (dk_at dksX4_wax_1 19 rfl rfl)
theorem dX4_wax_44 : decode cX4_wax 44 = .ok (.iload_n 3, 1) := dk_29 (dk_at dksX4_wax_1 20 rfl rfl)
theorem dX4_wax_45 : decode cX4_wax 45 = .ok (.invokevirtual 392, 3) := dk_182 1 136 (dk_at dksX4_wax_1 21 rfl rfl)
theorem dX4_wax_48 : decode cX4_wax 48 = .ok (.iadd, 1) := dk_96 (dk_at dksX4_wax_2 0 rfl rfl)
theorem dX4_wax_49 : decode cX4_wax 49 = .ok (.iaload, 1) := dk_46 (dk_at dksX4_wax_2 1 rfl rfl)
theorem dX4_wax_50 : decode cX4_wax 50 = .ok (.aload_n 0, 1) := dk_42 (dk_at dksX4_wax_2 2 rfl rfl)
theorem dX4_wax_51 : decode cX4_wax 51 = .ok (.getfield 98, 3) := dk_180 0 98 (dk_at dksX4_wax_2 3 rfl rfl)
theorem dX4_wax_54 : decode cX4_wax 54 = .ok (.sipush 16384, 3) := dk_17 64 0 (dk_at dksX4_wax_2 6 rfl rfl)
theorem dX4_wax_57 : decode cX4_wax 57 = .ok (.aload_n 0, 1) := dk_42 (dk_at dksX4_wax_2 9 rfl rfl)
theorem dX4_wax_58 : decode cX4_wax 58 = .ok (.iload_n 2, 1) := dk_28 (dk_at dksX4_wax_2 10 rfl rfl)
theorem dX4_wax_59 : decode cX4_wax 59 = .ok (.invokevirtual 392, 3) := dk_182 1 136 (dk_at dksX4_wax_2 11 rfl rfl)
theorem dX4_wax_62 : decode cX4_wax 62 = .ok (.iadd, 1) := dk_96 (dk_at dksX4_wax_2 14 rfl rfl)
theorem dX4_wax_63 : decode cX4_wax 63 = .ok (.iaload, 1) := dk_46 (dk_at dksX4_wax_2 15 rfl rfl)
theorem dX4_wax_64 : decode cX4_wax 64 = .ok (.if_icmp .ge 5, 3) := dk_162 0 5 (dk_at dksX4_wax_2 16 rfl rfl)
theorem dX4_wax_67 : decode cX4_wax 67 = .ok (.iload_n 3, 1) := dk_29 (dk_at dksX4_wax_2 19 rfl rfl)
theorem dX4_wax_68 : decode cX4_wax 68 = .ok (.istore_n 2, 1) := dk_61 (dk_at dksX4_wax_2 20 rfl rfl)
theorem dX4_wax_69 : decode cX4_wax 69 = .ok (.iinc 3 1, 3) := dk_132 3 1 (dk_at dksX4_wax_2 21 rfl rfl)
theorem dX4_wax_72 : decode cX4_wax 72 = .ok (.goto (-48), 3) := dk_167 255 208 (dk_at dksX4_wax_3 0 rfl rfl)
theorem dX4_wax_75 : decode cX4_wax 75 = .ok (.aload_n 0, 1) := dk_42 (dk_at dksX4_wax_3 3 rfl rfl)
theorem dX4_wax_76 : decode cX4_wax 76 = .ok (.getfield 98, 3) := dk_180 0 98 (dk_at dksX4_wax_3 4 rfl rfl)
theorem dX4_wax_79 : decode cX4_wax 79 = .ok (.sipush 16384, 3) := dk_17 64 0 (dk_at dksX4_wax_3 7 rfl rfl)
theorem dX4_wax_82 : decode cX4_wax 82 = .ok (.aload_n 0, 1) := dk_42 (dk_at dksX4_wax_3 10 rfl rfl)
theorem dX4_wax_83 : decode cX4_wax 83 = .ok (.iload_n 2, 1) := dk_28 (dk_at dksX4_wax_3 11 rfl rfl)
theorem dX4_wax_84 : decode cX4_wax 84 = .ok (.invokevirtual 392, 3) := dk_182 1 136 (dk_at dksX4_wax_3 12 rfl rfl)
theorem dX4_wax_87 : decode cX4_wax 87 = .ok (.iadd, 1) := dk_96 (dk_at dksX4_wax_3 15 rfl rfl)
theorem dX4_wax_88 : decode cX4_wax 88 = .ok (.iaload, 1) := dk_46 (dk_at dksX4_wax_3 16 rfl rfl)
theorem dX4_wax_89 : decode cX4_wax 89 = .ok (.istore_n 3, 1) := dk_62 (dk_at dksX4_wax_3 17 rfl rfl)
theorem dX4_wax_90 : decode cX4_wax 90 = .ok (.iload_n 3, 1) := dk_29 (dk_at dksX4_wax_3 18 rfl rfl)
theorem dX4_wax_91 : decode cX4_wax 91 = .ok (.ldc_w 416, 3) := dk_19 1 160 (dk_at dksX4_wax_3 19 rfl rfl)
theorem dX4_wax_94 : decode cX4_wax 94 = .ok (.if_icmp .lt 5, 3) := dk_161 0 5 (dk_at dksX4_wax_4 0 rfl rfl)
theorem dX4_wax_97 : decode cX4_wax 97 = .ok (.iconst (-1), 1) := dk_2 (dk_at dksX4_wax_4 3 rfl rfl)
theorem dX4_wax_98 : decode cX4_wax 98 = .ok (.ireturn, 1) := dk_172 (dk_at dksX4_wax_4 4 rfl rfl)
theorem dX4_wax_99 : decode cX4_wax 99 = .ok (.aload_n 0, 1) := dk_42 (dk_at dksX4_wax_4 5 rfl rfl)
theorem dX4_wax_100 : decode cX4_wax 100 = .ok (.getfield 92, 3) := dk_180 0 92 (dk_at dksX4_wax_4 6 rfl rfl)
theorem dX4_wax_103 : decode cX4_wax 103 = .ok (.iconst 0, 1) := dk_3 (dk_at dksX4_wax_4 9 rfl rfl)
theorem dX4_wax_104 : decode cX4_wax 104 = .ok (.iload_n 2, 1) := dk_28 (dk_at dksX4_wax_4 10 rfl rfl)
theorem dX4_wax_105 : decode cX4_wax 105 = .ok (.iastore, 1) := dk_79 (dk_at dksX4_wax_4 11 rfl rfl)
theorem dX4_wax_106 : decode cX4_wax 106 = .ok (.aload_n 0, 1) := dk_42 (dk_at dksX4_wax_4 12 rfl rfl)
theorem dX4_wax_107 : decode cX4_wax 107 = .ok (.iconst 1, 1) := dk_4 (dk_at dksX4_wax_4 13 rfl rfl)
theorem dX4_wax_108 : decode cX4_wax 108 = .ok (.putfield 380, 3) := dk_181 1 124 (dk_at dksX4_wax_4 14 rfl rfl)
theorem dX4_wax_111 : decode cX4_wax 111 = .ok (.aload_n 0, 1) := dk_42 (dk_at dksX4_wax_4 17 rfl rfl)
theorem dX4_wax_112 : decode cX4_wax 112 = .ok (.iload_n 2, 1) := dk_28 (dk_at dksX4_wax_4 18 rfl rfl)
theorem dX4_wax_113 : decode cX4_wax 113 = .ok (.invokevirtual 392, 3) := dk_182 1 136 (dk_at dksX4_wax_4 19 rfl rfl)
theorem dX4_wax_116 : decode cX4_wax 116 = .ok (.istore 4, 2) := dk_54 4 (dk_at dksX4_wax_4 22 rfl rfl)
theorem dX4_wax_118 : decode cX4_wax 118 = .ok (.iconst 4, 1) := dk_7 (dk_at dksX4_wax_5 0 rfl rfl)
theorem dX4_wax_119 : decode cX4_wax 119 = .ok (.istore 5, 2) := dk_54 5 (dk_at dksX4_wax_5 1 rfl rfl)
theorem dX4_wax_121 : decode cX4_wax 121 = .ok (.aload_n 0, 1) := dk_42 (dk_at dksX4_wax_5 3 rfl rfl)
theorem dX4_wax_122 : decode cX4_wax 122 = .ok (.getfield 98, 3) := dk_180 0 98 (dk_at dksX4_wax_5 4 rfl rfl)
theorem dX4_wax_125 : decode cX4_wax 125 = .ok (.sipush 4096, 3) := dk_17 16 0 (dk_at dksX4_wax_5 7 rfl rfl)
theorem dX4_wax_128 : decode cX4_wax 128 = .ok (.iload 5, 2) := dk_21 5 (dk_at dksX4_wax_5 10 rfl rfl)
theorem dX4_wax_130 : decode cX4_wax 130 = .ok (.imul, 1) := dk_104 (dk_at dksX4_wax_5 12 rfl rfl)
theorem dX4_wax_131 : decode cX4_wax 131 = .ok (.iload 4, 2) := dk_21 4 (dk_at dksX4_wax_5 13 rfl rfl)
theorem dX4_wax_133 : decode cX4_wax 133 = .ok (.iadd, 1) := dk_96 (dk_at dksX4_wax_5 15 rfl rfl)
theorem dX4_wax_134 : decode cX4_wax 134 = .ok (.iaload, 1) := dk_46 (dk_at dksX4_wax_5 16 rfl rfl)
theorem dX4_wax_135 : decode cX4_wax 135 = .ok (.ifCond .le 115, 3) := dk_158 0 115 (dk_at dksX4_wax_5 17 rfl rfl)
theorem dX4_wax_138 : decode cX4_wax 138 = .ok (.iconst 0, 1) := dk_3 (dk_at dksX4_wax_5 20 rfl rfl)
theorem dX4_wax_139 : decode cX4_wax 139 = .ok (.istore 6, 2) := dk_54 6 (dk_at dksX4_wax_5 21 rfl rfl)
theorem dX4_wax_141 : decode cX4_wax 141 = .ok (.aload_n 0, 1) := dk_42 (dk_at dksX4_wax_5 23 rfl rfl)
theorem dX4_wax_142 : decode cX4_wax 142 = .ok (.getfield 98, 3) := dk_180 0 98 (dk_at dksX4_wax_6 0 rfl rfl)
theorem dX4_wax_145 : decode cX4_wax 145 = .ok (.sipush 4096, 3) := dk_17 16 0 (dk_at dksX4_wax_6 3 rfl rfl)
theorem dX4_wax_148 : decode cX4_wax 148 = .ok (.iload 5, 2) := dk_21 5 (dk_at dksX4_wax_6 6 rfl rfl)
theorem dX4_wax_150 : decode cX4_wax 150 = .ok (.iconst 1, 1) := dk_4 (dk_at dksX4_wax_6 8 rfl rfl)
theorem dX4_wax_151 : decode cX4_wax 151 = .ok (.isub, 1) := dk_100 (dk_at dksX4_wax_6 9 rfl rfl)
theorem dX4_wax_152 : decode cX4_wax 152 = .ok (.imul, 1) := dk_104 (dk_at dksX4_wax_6 10 rfl rfl)
theorem dX4_wax_153 : decode cX4_wax 153 = .ok (.aload_n 0, 1) := dk_42 (dk_at dksX4_wax_6 11 rfl rfl)
theorem dX4_wax_154 : decode cX4_wax 154 = .ok (.getfield 102, 3) := dk_180 0 102 (dk_at dksX4_wax_6 12 rfl rfl)
theorem dX4_wax_157 : decode cX4_wax 157 = .ok (.bipush 16, 2) := dk_16 16 (dk_at dksX4_wax_6 15 rfl rfl)
theorem dX4_wax_159 : decode cX4_wax 159 = .ok (.iload 4, 2) := dk_21 4 (dk_at dksX4_wax_6 17 rfl rfl)
theorem dX4_wax_161 : decode cX4_wax 161 = .ok (.imul, 1) := dk_104 (dk_at dksX4_wax_6 19 rfl rfl)
theorem dX4_wax_162 : decode cX4_wax 162 = .ok (.iload 6, 2) := dk_21 6 (dk_at dksX4_wax_6 20 rfl rfl)
theorem dX4_wax_164 : decode cX4_wax 164 = .ok (.iadd, 1) := dk_96 (dk_at dksX4_wax_6 22 rfl rfl)
theorem dX4_wax_165 : decode cX4_wax 165 = .ok (.iaload, 1) := dk_46 (dk_at dksX4_wax_6 23 rfl rfl)
theorem dX4_wax_166 : decode cX4_wax 166 = .ok (.iadd, 1) := dk_96 (dk_at dksX4_wax_7 0 rfl rfl)
theorem dX4_wax_167 : decode cX4_wax 167 = .ok (.iaload, 1) := dk_46 (dk_at dksX4_wax_7 1 rfl rfl)
theorem dX4_wax_168 : decode cX4_wax 168 = .ok (.iconst 1, 1) := dk_4 (dk_at dksX4_wax_7 2 rfl rfl)
theorem dX4_wax_169 : decode cX4_wax 169 = .ok (.iadd, 1) := dk_96 (dk_at dksX4_wax_7 3 rfl rfl)
theorem dX4_wax_170 : decode cX4_wax 170 = .ok (.iload 6, 2) := dk_21 6 (dk_at dksX4_wax_7 4 rfl rfl)
theorem dX4_wax_172 : decode cX4_wax 172 = .ok (.iconst 4, 1) := dk_7 (dk_at dksX4_wax_7 6 rfl rfl)
theorem dX4_wax_173 : decode cX4_wax 173 = .ok (.irem, 1) := dk_112 (dk_at dksX4_wax_7 7 rfl rfl)
theorem dX4_wax_174 : decode cX4_wax 174 = .ok (.iadd, 1) := dk_96 (dk_at dksX4_wax_7 8 rfl rfl)
theorem dX4_wax_175 : decode cX4_wax 175 = .ok (.aload_n 0, 1) := dk_42 (dk_at dksX4_wax_7 9 rfl rfl)
theorem dX4_wax_176 : decode cX4_wax 176 = .ok (.getfield 98, 3) := dk_180 0 98 (dk_at dksX4_wax_7 10 rfl rfl)
theorem dX4_wax_179 : decode cX4_wax 179 = .ok (.sipush 4096, 3) := dk_17 16 0 (dk_at dksX4_wax_7 13 rfl rfl)
theorem dX4_wax_182 : decode cX4_wax 182 = .ok (.iload 5, 2) := dk_21 5 (dk_at dksX4_wax_7 16 rfl rfl)
theorem dX4_wax_184 : decode cX4_wax 184 = .ok (.imul, 1) := dk_104 (dk_at dksX4_wax_7 18 rfl rfl)
theorem dX4_wax_185 : decode cX4_wax 185 = .ok (.iload 4, 2) := dk_21 4 (dk_at dksX4_wax_7 19 rfl rfl)
theorem dX4_wax_187 : decode cX4_wax 187 = .ok (.iadd, 1) := dk_96 (dk_at dksX4_wax_7 21 rfl rfl)
theorem dX4_wax_188 : decode cX4_wax 188 = .ok (.iaload, 1) := dk_46 (dk_at dksX4_wax_7 22 rfl rfl)
theorem dX4_wax_189 : decode cX4_wax 189 = .ok (.if_icmp .eq 9, 3) := dk_159 0 9 (dk_at dksX4_wax_8 0 rfl rfl)
theorem dX4_wax_192 : decode cX4_wax 192 = .ok (.iinc 6 1, 3) := dk_132 6 1 (dk_at dksX4_wax_8 3 rfl rfl)
theorem dX4_wax_195 : decode cX4_wax 195 = .ok (.goto (-54), 3) := dk_167 255 202 (dk_at dksX4_wax_8 6 rfl rfl)
theorem dX4_wax_198 : decode cX4_wax 198 = .ok (.aload_n 0, 1) := dk_42 (dk_at dksX4_wax_8 9 rfl rfl)
theorem dX4_wax_199 : decode cX4_wax 199 = .ok (.getfield 92, 3) := dk_180 0 92 (dk_at dksX4_wax_8 10 rfl rfl)
theorem dX4_wax_202 : decode cX4_wax 202 = .ok (.aload_n 0, 1) := dk_42 (dk_at dksX4_wax_8 13 rfl rfl)
theorem dX4_wax_203 : decode cX4_wax 203 = .ok (.getfield 380, 3) := dk_180 1 124 (dk_at dksX4_wax_8 14 rfl rfl)
theorem dX4_wax_206 : decode cX4_wax 206 = .ok (.bipush 10, 2) := dk_16 10 (dk_at dksX4_wax_8 17 rfl rfl)
theorem dX4_wax_208 : decode cX4_wax 208 = .ok (.iload 6, 2) := dk_21 6 (dk_at dksX4_wax_8 19 rfl rfl)
theorem dX4_wax_210 : decode cX4_wax 210 = .ok (.iconst 4, 1) := dk_7 (dk_at dksX4_wax_8 21 rfl rfl)
theorem dX4_wax_211 : decode cX4_wax 211 = .ok (.idiv, 1) := dk_108 (dk_at dksX4_wax_8 22 rfl rfl)
theorem dX4_wax_212 : decode cX4_wax 212 = .ok (.imul, 1) := dk_104 (dk_at dksX4_wax_8 23 rfl rfl)
theorem dX4_wax_213 : decode cX4_wax 213 = .ok (.iload 6, 2) := dk_21 6 (dk_at dksX4_wax_9 0 rfl rfl)
theorem dX4_wax_215 : decode cX4_wax 215 = .ok (.iconst 4, 1) := dk_7 (dk_at dksX4_wax_9 2 rfl rfl)
theorem dX4_wax_216 : decode cX4_wax 216 = .ok (.irem, 1) := dk_112 (dk_at dksX4_wax_9 3 rfl rfl)
theorem dX4_wax_217 : decode cX4_wax 217 = .ok (.iadd, 1) := dk_96 (dk_at dksX4_wax_9 4 rfl rfl)
theorem dX4_wax_218 : decode cX4_wax 218 = .ok (.iastore, 1) := dk_79 (dk_at dksX4_wax_9 5 rfl rfl)
theorem dX4_wax_219 : decode cX4_wax 219 = .ok (.aload_n 0, 1) := dk_42 (dk_at dksX4_wax_9 6 rfl rfl)
theorem dX4_wax_220 : decode cX4_wax 220 = .ok (.dup, 1) := dk_89 (dk_at dksX4_wax_9 7 rfl rfl)
theorem dX4_wax_221 : decode cX4_wax 221 = .ok (.getfield 380, 3) := dk_180 1 124 (dk_at dksX4_wax_9 8 rfl rfl)
theorem dX4_wax_224 : decode cX4_wax 224 = .ok (.iconst 1, 1) := dk_4 (dk_at dksX4_wax_9 11 rfl rfl)
theorem dX4_wax_225 : decode cX4_wax 225 = .ok (.iadd, 1) := dk_96 (dk_at dksX4_wax_9 12 rfl rfl)
theorem dX4_wax_226 : decode cX4_wax 226 = .ok (.putfield 380, 3) := dk_181 1 124 (dk_at dksX4_wax_9 13 rfl rfl)
theorem dX4_wax_229 : decode cX4_wax 229 = .ok (.aload_n 0, 1) := dk_42 (dk_at dksX4_wax_9 16 rfl rfl)
theorem dX4_wax_230 : decode cX4_wax 230 = .ok (.getfield 102, 3) := dk_180 0 102 (dk_at dksX4_wax_9 17 rfl rfl)
theorem dX4_wax_233 : decode cX4_wax 233 = .ok (.bipush 16, 2) := dk_16 16 (dk_at dksX4_wax_9 20 rfl rfl)
theorem dX4_wax_235 : decode cX4_wax 235 = .ok (.iload 4, 2) := dk_21 4 (dk_at dksX4_wax_9 22 rfl rfl)
theorem dX4_wax_237 : decode cX4_wax 237 = .ok (.imul, 1) := dk_104 (dk_at dksX4_wax_10 0 rfl rfl)
theorem dX4_wax_238 : decode cX4_wax 238 = .ok (.iload 6, 2) := dk_21 6 (dk_at dksX4_wax_10 1 rfl rfl)
theorem dX4_wax_240 : decode cX4_wax 240 = .ok (.iadd, 1) := dk_96 (dk_at dksX4_wax_10 3 rfl rfl)
theorem dX4_wax_241 : decode cX4_wax 241 = .ok (.iaload, 1) := dk_46 (dk_at dksX4_wax_10 4 rfl rfl)
theorem dX4_wax_242 : decode cX4_wax 242 = .ok (.istore 4, 2) := dk_54 4 (dk_at dksX4_wax_10 5 rfl rfl)
theorem dX4_wax_244 : decode cX4_wax 244 = .ok (.iinc 5 (-1), 3) := dk_132 5 255 (dk_at dksX4_wax_10 7 rfl rfl)
theorem dX4_wax_247 : decode cX4_wax 247 = .ok (.goto (-126), 3) := dk_167 255 130 (dk_at dksX4_wax_10 10 rfl rfl)
theorem dX4_wax_250 : decode cX4_wax 250 = .ok (.iload_n 3, 1) := dk_29 (dk_at dksX4_wax_10 13 rfl rfl)
theorem dX4_wax_251 : decode cX4_wax 251 = .ok (.ireturn, 1) := dk_172 (dk_at dksX4_wax_10 14 rfl rfl)
abbrev cX4_layWays : ByteArray := prog_27_method_85_code
def yX4_layWays : MethodName := ⟨RX4, "layWays", "(I)V"⟩
def dkwX4_layWays_8 : List UInt8 := [96, 21, 5, 79, 132, 4, 1, 167, 255, 153, 132, 3, 1, 167, 255, 139, 177]
abbrev dktX4_layWays_8 : List UInt8 := dkwX4_layWays_8 ++ []
def dkwX4_layWays_7 : List UInt8 := [162, 0, 7, 21, 7, 54, 5, 132, 6, 1, 167, 255, 198, 42, 180, 0, 98, 17, 16, 0, 29, 104, 21, 4]
abbrev dktX4_layWays_7 : List UInt8 := dkwX4_layWays_7 ++ dktX4_layWays_8
def dkwX4_layWays_6 : List UInt8 := [16, 16, 21, 4, 104, 21, 6, 96, 46, 96, 46, 4, 96, 21, 6, 7, 112, 96, 54, 7, 21, 7, 21, 5]
abbrev dktX4_layWays_6 : List UInt8 := dkwX4_layWays_6 ++ dktX4_layWays_7
def dkwX4_layWays_5 : List UInt8 := [21, 6, 42, 182, 1, 157, 162, 0, 55, 42, 180, 0, 98, 17, 16, 0, 29, 4, 100, 104, 42, 180, 0, 102]
abbrev dktX4_layWays_5 : List UInt8 := dkwX4_layWays_5 ++ dktX4_layWays_6
def dkwX4_layWays_4 : List UInt8 := [21, 4, 28, 162, 0, 103, 21, 4, 27, 160, 0, 7, 3, 167, 0, 6, 19, 1, 160, 54, 5, 3, 54, 6]
abbrev dktX4_layWays_4 : List UInt8 := dkwX4_layWays_4 ++ dktX4_layWays_5
def dkwX4_layWays_3 : List UInt8 := [167, 0, 6, 19, 1, 160, 79, 132, 3, 1, 167, 255, 186, 4, 62, 29, 7, 163, 0, 118, 3, 54, 4]
abbrev dktX4_layWays_3 : List UInt8 := dkwX4_layWays_3 ++ dktX4_layWays_4
def dkwX4_layWays_2 : List UInt8 := [3, 182, 1, 111, 79, 132, 4, 1, 167, 255, 218, 42, 180, 0, 98, 29, 29, 27, 160, 0, 7, 3]
abbrev dktX4_layWays_2 : List UInt8 := dkwX4_layWays_2 ++ dktX4_layWays_3
def dkwX4_layWays_1 : List UInt8 := [162, 0, 35, 42, 180, 0, 102, 16, 16, 29, 104, 21, 4, 96, 42, 29, 21, 4, 7, 108, 21, 4, 7, 112]
abbrev dktX4_layWays_1 : List UInt8 := dkwX4_layWays_1 ++ dktX4_layWays_2
def dkwX4_layWays_0 : List UInt8 := [4, 42, 182, 1, 86, 120, 61, 3, 62, 29, 28, 162, 0, 71, 3, 54, 4, 21, 4, 42, 182, 1, 157]
abbrev dktX4_layWays_0 : List UInt8 := dkwX4_layWays_0 ++ dktX4_layWays_1
theorem dksX4_layWays_0 : cX4_layWays.data.toList.drop 0 = dktX4_layWays_0 := by decide +kernel
theorem dksX4_layWays_1 : cX4_layWays.data.toList.drop 23 = dktX4_layWays_1 := dk_seg dksX4_layWays_0 23 rfl rfl
theorem dksX4_layWays_2 : cX4_layWays.data.toList.drop 47 = dktX4_layWays_2 := dk_seg dksX4_layWays_1 24 rfl rfl
theorem dksX4_layWays_3 : cX4_layWays.data.toList.drop 69 = dktX4_layWays_3 := dk_seg dksX4_layWays_2 22 rfl rfl
theorem dksX4_layWays_4 : cX4_layWays.data.toList.drop 92 = dktX4_layWays_4 := dk_seg dksX4_layWays_3 23 rfl rfl
theorem dksX4_layWays_5 : cX4_layWays.data.toList.drop 116 = dktX4_layWays_5 := dk_seg dksX4_layWays_4 24 rfl rfl
theorem dksX4_layWays_6 : cX4_layWays.data.toList.drop 140 = dktX4_layWays_6 := dk_seg dksX4_layWays_5 24 rfl rfl
theorem dksX4_layWays_7 : cX4_layWays.data.toList.drop 164 = dktX4_layWays_7 := dk_seg dksX4_layWays_6 24 rfl rfl
theorem dksX4_layWays_8 : cX4_layWays.data.toList.drop 188 = dktX4_layWays_8 := dk_seg dksX4_layWays_7 24 rfl rfl
theorem dX4_layWays_0 : decode cX4_layWays 0 = .ok (.iconst 1, 1) := dk_4 (dk_at dksX4_layWays_0 0 rfl rfl)
theorem dX4_layWays_1 : decode cX4_layWays 1 = .ok (.aload_n 0, 1) := dk_42 (dk_at dksX4_layWays_0 1 rfl rfl)
theorem dX4_layWays_2 : decode cX4_layWays 2 = .ok (.invokevirtual 342, 3) := dk_182 1 86 (dk_at dksX4_layWays_0 2 rfl rfl)
theorem dX4_layWays_5 : decode cX4_layWays 5 = .ok (.ishl, 1) := dk_120 (dk_at dksX4_layWays_0 5 rfl rfl)
theorem dX4_layWays_6 : decode cX4_layWays 6 = .ok (.istore_n 2, 1) := dk_61 (dk_at dksX4_layWays_0 6 rfl rfl)
theorem dX4_layWays_7 : decode cX4_layWays 7 = .ok (.iconst 0, 1) := dk_3 (dk_at dksX4_layWays_0 7 rfl rfl)
theorem dX4_layWays_8 : decode cX4_layWays 8 = .ok (.istore_n 3, 1) := dk_62 (dk_at dksX4_layWays_0 8 rfl rfl)
theorem dX4_layWays_9 : decode cX4_layWays 9 = .ok (.iload_n 3, 1) := dk_29 (dk_at dksX4_layWays_0 9 rfl rfl)
theorem dX4_layWays_10 : decode cX4_layWays 10 = .ok (.iload_n 2, 1) := dk_28 (dk_at dksX4_layWays_0 10 rfl rfl)
theorem dX4_layWays_11 : decode cX4_layWays 11 = .ok (.if_icmp .ge 71, 3) := dk_162 0 71 (dk_at dksX4_layWays_0 11 rfl rfl)
theorem dX4_layWays_14 : decode cX4_layWays 14 = .ok (.iconst 0, 1) := dk_3 (dk_at dksX4_layWays_0 14 rfl rfl)
theorem dX4_layWays_15 : decode cX4_layWays 15 = .ok (.istore 4, 2) := dk_54 4 (dk_at dksX4_layWays_0 15 rfl rfl)
theorem dX4_layWays_17 : decode cX4_layWays 17 = .ok (.iload 4, 2) := dk_21 4 (dk_at dksX4_layWays_0 17 rfl rfl)
theorem dX4_layWays_19 : decode cX4_layWays 19 = .ok (.aload_n 0, 1) := dk_42 (dk_at dksX4_layWays_0 19 rfl rfl)
theorem dX4_layWays_20 : decode cX4_layWays 20 = .ok (.invokevirtual 413, 3) := dk_182 1 157 (dk_at dksX4_layWays_0 20 rfl rfl)
theorem dX4_layWays_23 : decode cX4_layWays 23 = .ok (.if_icmp .ge 35, 3) := dk_162 0 35 (dk_at dksX4_layWays_1 0 rfl rfl)
theorem dX4_layWays_26 : decode cX4_layWays 26 = .ok (.aload_n 0, 1) := dk_42 (dk_at dksX4_layWays_1 3 rfl rfl)
theorem dX4_layWays_27 : decode cX4_layWays 27 = .ok (.getfield 102, 3) := dk_180 0 102 (dk_at dksX4_layWays_1 4 rfl rfl)
theorem dX4_layWays_30 : decode cX4_layWays 30 = .ok (.bipush 16, 2) := dk_16 16 (dk_at dksX4_layWays_1 7 rfl rfl)
theorem dX4_layWays_32 : decode cX4_layWays 32 = .ok (.iload_n 3, 1) := dk_29 (dk_at dksX4_layWays_1 9 rfl rfl)
theorem dX4_layWays_33 : decode cX4_layWays 33 = .ok (.imul, 1) := dk_104 (dk_at dksX4_layWays_1 10 rfl rfl)
theorem dX4_layWays_34 : decode cX4_layWays 34 = .ok (.iload 4, 2) := dk_21 4 (dk_at dksX4_layWays_1 11 rfl rfl)
theorem dX4_layWays_36 : decode cX4_layWays 36 = .ok (.iadd, 1) := dk_96 (dk_at dksX4_layWays_1 13 rfl rfl)
theorem dX4_layWays_37 : decode cX4_layWays 37 = .ok (.aload_n 0, 1) := dk_42 (dk_at dksX4_layWays_1 14 rfl rfl)
theorem dX4_layWays_38 : decode cX4_layWays 38 = .ok (.iload_n 3, 1) := dk_29 (dk_at dksX4_layWays_1 15 rfl rfl)
theorem dX4_layWays_39 : decode cX4_layWays 39 = .ok (.iload 4, 2) := dk_21 4 (dk_at dksX4_layWays_1 16 rfl rfl)
theorem dX4_layWays_41 : decode cX4_layWays 41 = .ok (.iconst 4, 1) := dk_7 (dk_at dksX4_layWays_1 18 rfl rfl)
theorem dX4_layWays_42 : decode cX4_layWays 42 = .ok (.idiv, 1) := dk_108 (dk_at dksX4_layWays_1 19 rfl rfl)
theorem dX4_layWays_43 : decode cX4_layWays 43 = .ok (.iload 4, 2) := dk_21 4 (dk_at dksX4_layWays_1 20 rfl rfl)
theorem dX4_layWays_45 : decode cX4_layWays 45 = .ok (.iconst 4, 1) := dk_7 (dk_at dksX4_layWays_1 22 rfl rfl)
theorem dX4_layWays_46 : decode cX4_layWays 46 = .ok (.irem, 1) := dk_112 (dk_at dksX4_layWays_1 23 rfl rfl)
theorem dX4_layWays_47 : decode cX4_layWays 47 = .ok (.iconst 0, 1) := dk_3 (dk_at dksX4_layWays_2 0 rfl rfl)
theorem dX4_layWays_48 : decode cX4_layWays 48 = .ok (.invokevirtual 367, 3) := dk_182 1 111 (dk_at dksX4_layWays_2 1 rfl rfl)
theorem dX4_layWays_51 : decode cX4_layWays 51 = .ok (.iastore, 1) := dk_79 (dk_at dksX4_layWays_2 4 rfl rfl)
theorem dX4_layWays_52 : decode cX4_layWays 52 = .ok (.iinc 4 1, 3) := dk_132 4 1 (dk_at dksX4_layWays_2 5 rfl rfl)
theorem dX4_layWays_55 : decode cX4_layWays 55 = .ok (.goto (-38), 3) := dk_167 255 218 (dk_at dksX4_layWays_2 8 rfl rfl)
theorem dX4_layWays_58 : decode cX4_layWays 58 = .ok (.aload_n 0, 1) := dk_42 (dk_at dksX4_layWays_2 11 rfl rfl)
theorem dX4_layWays_59 : decode cX4_layWays 59 = .ok (.getfield 98, 3) := dk_180 0 98 (dk_at dksX4_layWays_2 12 rfl rfl)
theorem dX4_layWays_62 : decode cX4_layWays 62 = .ok (.iload_n 3, 1) := dk_29 (dk_at dksX4_layWays_2 15 rfl rfl)
theorem dX4_layWays_63 : decode cX4_layWays 63 = .ok (.iload_n 3, 1) := dk_29 (dk_at dksX4_layWays_2 16 rfl rfl)
theorem dX4_layWays_64 : decode cX4_layWays 64 = .ok (.iload_n 1, 1) := dk_27 (dk_at dksX4_layWays_2 17 rfl rfl)
theorem dX4_layWays_65 : decode cX4_layWays 65 = .ok (.if_icmp .ne 7, 3) := dk_160 0 7 (dk_at dksX4_layWays_2 18 rfl rfl)
theorem dX4_layWays_68 : decode cX4_layWays 68 = .ok (.iconst 0, 1) := dk_3 (dk_at dksX4_layWays_2 21 rfl rfl)
theorem dX4_layWays_69 : decode cX4_layWays 69 = .ok (.goto 6, 3) := dk_167 0 6 (dk_at dksX4_layWays_3 0 rfl rfl)
theorem dX4_layWays_72 : decode cX4_layWays 72 = .ok (.ldc_w 416, 3) := dk_19 1 160 (dk_at dksX4_layWays_3 3 rfl rfl)
theorem dX4_layWays_75 : decode cX4_layWays 75 = .ok (.iastore, 1) := dk_79 (dk_at dksX4_layWays_3 6 rfl rfl)
theorem dX4_layWays_76 : decode cX4_layWays 76 = .ok (.iinc 3 1, 3) := dk_132 3 1 (dk_at dksX4_layWays_3 7 rfl rfl)
theorem dX4_layWays_79 : decode cX4_layWays 79 = .ok (.goto (-70), 3) := dk_167 255 186 (dk_at dksX4_layWays_3 10 rfl rfl)
theorem dX4_layWays_82 : decode cX4_layWays 82 = .ok (.iconst 1, 1) := dk_4 (dk_at dksX4_layWays_3 13 rfl rfl)
theorem dX4_layWays_83 : decode cX4_layWays 83 = .ok (.istore_n 3, 1) := dk_62 (dk_at dksX4_layWays_3 14 rfl rfl)
theorem dX4_layWays_84 : decode cX4_layWays 84 = .ok (.iload_n 3, 1) := dk_29 (dk_at dksX4_layWays_3 15 rfl rfl)
theorem dX4_layWays_85 : decode cX4_layWays 85 = .ok (.iconst 4, 1) := dk_7 (dk_at dksX4_layWays_3 16 rfl rfl)
theorem dX4_layWays_86 : decode cX4_layWays 86 = .ok (.if_icmp .gt 118, 3) := dk_163 0 118 (dk_at dksX4_layWays_3 17 rfl rfl)
theorem dX4_layWays_89 : decode cX4_layWays 89 = .ok (.iconst 0, 1) := dk_3 (dk_at dksX4_layWays_3 20 rfl rfl)
theorem dX4_layWays_90 : decode cX4_layWays 90 = .ok (.istore 4, 2) := dk_54 4 (dk_at dksX4_layWays_3 21 rfl rfl)
theorem dX4_layWays_92 : decode cX4_layWays 92 = .ok (.iload 4, 2) := dk_21 4 (dk_at dksX4_layWays_4 0 rfl rfl)
theorem dX4_layWays_94 : decode cX4_layWays 94 = .ok (.iload_n 2, 1) := dk_28 (dk_at dksX4_layWays_4 2 rfl rfl)
theorem dX4_layWays_95 : decode cX4_layWays 95 = .ok (.if_icmp .ge 103, 3) := dk_162 0 103 (dk_at dksX4_layWays_4 3 rfl rfl)
theorem dX4_layWays_98 : decode cX4_layWays 98 = .ok (.iload 4, 2) := dk_21 4 (dk_at dksX4_layWays_4 6 rfl rfl)
theorem dX4_layWays_100 : decode cX4_layWays 100 = .ok (.iload_n 1, 1) := dk_27 (dk_at dksX4_layWays_4 8 rfl rfl)
theorem dX4_layWays_101 : decode cX4_layWays 101 = .ok (.if_icmp .ne 7, 3) := dk_160 0 7 (dk_at dksX4_layWays_4 9 rfl rfl)
theorem dX4_layWays_104 : decode cX4_layWays 104 = .ok (.iconst 0, 1) := dk_3 (dk_at dksX4_layWays_4 12 rfl rfl)
theorem dX4_layWays_105 : decode cX4_layWays 105 = .ok (.goto 6, 3) := dk_167 0 6 (dk_at dksX4_layWays_4 13 rfl rfl)
theorem dX4_layWays_108 : decode cX4_layWays 108 = .ok (.ldc_w 416, 3) := dk_19 1 160 (dk_at dksX4_layWays_4 16 rfl rfl)
theorem dX4_layWays_111 : decode cX4_layWays 111 = .ok (.istore 5, 2) := dk_54 5 (dk_at dksX4_layWays_4 19 rfl rfl)
theorem dX4_layWays_113 : decode cX4_layWays 113 = .ok (.iconst 0, 1) := dk_3 (dk_at dksX4_layWays_4 21 rfl rfl)
theorem dX4_layWays_114 : decode cX4_layWays 114 = .ok (.istore 6, 2) := dk_54 6 (dk_at dksX4_layWays_4 22 rfl rfl)
theorem dX4_layWays_116 : decode cX4_layWays 116 = .ok (.iload 6, 2) := dk_21 6 (dk_at dksX4_layWays_5 0 rfl rfl)
theorem dX4_layWays_118 : decode cX4_layWays 118 = .ok (.aload_n 0, 1) := dk_42 (dk_at dksX4_layWays_5 2 rfl rfl)
theorem dX4_layWays_119 : decode cX4_layWays 119 = .ok (.invokevirtual 413, 3) := dk_182 1 157 (dk_at dksX4_layWays_5 3 rfl rfl)
theorem dX4_layWays_122 : decode cX4_layWays 122 = .ok (.if_icmp .ge 55, 3) := dk_162 0 55 (dk_at dksX4_layWays_5 6 rfl rfl)
theorem dX4_layWays_125 : decode cX4_layWays 125 = .ok (.aload_n 0, 1) := dk_42 (dk_at dksX4_layWays_5 9 rfl rfl)
theorem dX4_layWays_126 : decode cX4_layWays 126 = .ok (.getfield 98, 3) := dk_180 0 98 (dk_at dksX4_layWays_5 10 rfl rfl)
theorem dX4_layWays_129 : decode cX4_layWays 129 = .ok (.sipush 4096, 3) := dk_17 16 0 (dk_at dksX4_layWays_5 13 rfl rfl)
theorem dX4_layWays_132 : decode cX4_layWays 132 = .ok (.iload_n 3, 1) := dk_29 (dk_at dksX4_layWays_5 16 rfl rfl)
theorem dX4_layWays_133 : decode cX4_layWays 133 = .ok (.iconst 1, 1) := dk_4 (dk_at dksX4_layWays_5 17 rfl rfl)
theorem dX4_layWays_134 : decode cX4_layWays 134 = .ok (.isub, 1) := dk_100 (dk_at dksX4_layWays_5 18 rfl rfl)
theorem dX4_layWays_135 : decode cX4_layWays 135 = .ok (.imul, 1) := dk_104 (dk_at dksX4_layWays_5 19 rfl rfl)
theorem dX4_layWays_136 : decode cX4_layWays 136 = .ok (.aload_n 0, 1) := dk_42 (dk_at dksX4_layWays_5 20 rfl rfl)
theorem dX4_layWays_137 : decode cX4_layWays 137 = .ok (.getfield 102, 3) := dk_180 0 102 (dk_at dksX4_layWays_5 21 rfl rfl)
theorem dX4_layWays_140 : decode cX4_layWays 140 = .ok (.bipush 16, 2) := dk_16 16 (dk_at dksX4_layWays_6 0 rfl rfl)
theorem dX4_layWays_142 : decode cX4_layWays 142 = .ok (.iload 4, 2) := dk_21 4 (dk_at dksX4_layWays_6 2 rfl rfl)
theorem dX4_layWays_144 : decode cX4_layWays 144 = .ok (.imul, 1) := dk_104 (dk_at dksX4_layWays_6 4 rfl rfl)
theorem dX4_layWays_145 : decode cX4_layWays 145 = .ok (.iload 6, 2) := dk_21 6 (dk_at dksX4_layWays_6 5 rfl rfl)
theorem dX4_layWays_147 : decode cX4_layWays 147 = .ok (.iadd, 1) := dk_96 (dk_at dksX4_layWays_6 7 rfl rfl)
theorem dX4_layWays_148 : decode cX4_layWays 148 = .ok (.iaload, 1) := dk_46 (dk_at dksX4_layWays_6 8 rfl rfl)
theorem dX4_layWays_149 : decode cX4_layWays 149 = .ok (.iadd, 1) := dk_96 (dk_at dksX4_layWays_6 9 rfl rfl)
theorem dX4_layWays_150 : decode cX4_layWays 150 = .ok (.iaload, 1) := dk_46 (dk_at dksX4_layWays_6 10 rfl rfl)
theorem dX4_layWays_151 : decode cX4_layWays 151 = .ok (.iconst 1, 1) := dk_4 (dk_at dksX4_layWays_6 11 rfl rfl)
theorem dX4_layWays_152 : decode cX4_layWays 152 = .ok (.iadd, 1) := dk_96 (dk_at dksX4_layWays_6 12 rfl rfl)
theorem dX4_layWays_153 : decode cX4_layWays 153 = .ok (.iload 6, 2) := dk_21 6 (dk_at dksX4_layWays_6 13 rfl rfl)
theorem dX4_layWays_155 : decode cX4_layWays 155 = .ok (.iconst 4, 1) := dk_7 (dk_at dksX4_layWays_6 15 rfl rfl)
theorem dX4_layWays_156 : decode cX4_layWays 156 = .ok (.irem, 1) := dk_112 (dk_at dksX4_layWays_6 16 rfl rfl)
theorem dX4_layWays_157 : decode cX4_layWays 157 = .ok (.iadd, 1) := dk_96 (dk_at dksX4_layWays_6 17 rfl rfl)
theorem dX4_layWays_158 : decode cX4_layWays 158 = .ok (.istore 7, 2) := dk_54 7 (dk_at dksX4_layWays_6 18 rfl rfl)
theorem dX4_layWays_160 : decode cX4_layWays 160 = .ok (.iload 7, 2) := dk_21 7 (dk_at dksX4_layWays_6 20 rfl rfl)
theorem dX4_layWays_162 : decode cX4_layWays 162 = .ok (.iload 5, 2) := dk_21 5 (dk_at dksX4_layWays_6 22 rfl rfl)
theorem dX4_layWays_164 : decode cX4_layWays 164 = .ok (.if_icmp .ge 7, 3) := dk_162 0 7 (dk_at dksX4_layWays_7 0 rfl rfl)
theorem dX4_layWays_167 : decode cX4_layWays 167 = .ok (.iload 7, 2) := dk_21 7 (dk_at dksX4_layWays_7 3 rfl rfl)
theorem dX4_layWays_169 : decode cX4_layWays 169 = .ok (.istore 5, 2) := dk_54 5 (dk_at dksX4_layWays_7 5 rfl rfl)
theorem dX4_layWays_171 : decode cX4_layWays 171 = .ok (.iinc 6 1, 3) := dk_132 6 1 (dk_at dksX4_layWays_7 7 rfl rfl)
theorem dX4_layWays_174 : decode cX4_layWays 174 = .ok (.goto (-58), 3) := dk_167 255 198 (dk_at dksX4_layWays_7 10 rfl rfl)
theorem dX4_layWays_177 : decode cX4_layWays 177 = .ok (.aload_n 0, 1) := dk_42 (dk_at dksX4_layWays_7 13 rfl rfl)
theorem dX4_layWays_178 : decode cX4_layWays 178 = .ok (.getfield 98, 3) := dk_180 0 98 (dk_at dksX4_layWays_7 14 rfl rfl)
theorem dX4_layWays_181 : decode cX4_layWays 181 = .ok (.sipush 4096, 3) := dk_17 16 0 (dk_at dksX4_layWays_7 17 rfl rfl)
theorem dX4_layWays_184 : decode cX4_layWays 184 = .ok (.iload_n 3, 1) := dk_29 (dk_at dksX4_layWays_7 20 rfl rfl)
theorem dX4_layWays_185 : decode cX4_layWays 185 = .ok (.imul, 1) := dk_104 (dk_at dksX4_layWays_7 21 rfl rfl)
theorem dX4_layWays_186 : decode cX4_layWays 186 = .ok (.iload 4, 2) := dk_21 4 (dk_at dksX4_layWays_7 22 rfl rfl)
theorem dX4_layWays_188 : decode cX4_layWays 188 = .ok (.iadd, 1) := dk_96 (dk_at dksX4_layWays_8 0 rfl rfl)
theorem dX4_layWays_189 : decode cX4_layWays 189 = .ok (.iload 5, 2) := dk_21 5 (dk_at dksX4_layWays_8 1 rfl rfl)
theorem dX4_layWays_191 : decode cX4_layWays 191 = .ok (.iastore, 1) := dk_79 (dk_at dksX4_layWays_8 3 rfl rfl)
theorem dX4_layWays_192 : decode cX4_layWays 192 = .ok (.iinc 4 1, 3) := dk_132 4 1 (dk_at dksX4_layWays_8 4 rfl rfl)
theorem dX4_layWays_195 : decode cX4_layWays 195 = .ok (.goto (-103), 3) := dk_167 255 153 (dk_at dksX4_layWays_8 7 rfl rfl)
theorem dX4_layWays_198 : decode cX4_layWays 198 = .ok (.iinc 3 1, 3) := dk_132 3 1 (dk_at dksX4_layWays_8 10 rfl rfl)
theorem dX4_layWays_201 : decode cX4_layWays 201 = .ok (.goto (-117), 3) := dk_167 255 139 (dk_at dksX4_layWays_8 13 rfl rfl)
theorem dX4_layWays_204 : decode cX4_layWays 204 = .ok (.return_, 1) := dk_177 (dk_at dksX4_layWays_8 16 rfl rfl)
abbrev cX4_ways : ByteArray := prog_27_method_84_code
def yX4_ways : MethodName := ⟨RX4, "ways", "()I"⟩
def dkwX4_ways_0 : List UInt8 := [7, 42, 180, 0, 27, 42, 180, 0, 250, 46, 104, 172]
abbrev dktX4_ways_0 : List UInt8 := dkwX4_ways_0 ++ []
theorem dksX4_ways_0 : cX4_ways.data.toList.drop 0 = dktX4_ways_0 := by decide +kernel
theorem dX4_ways_0 : decode cX4_ways 0 = .ok (.iconst 4, 1) := dk_7 (dk_at dksX4_ways_0 0 rfl rfl)
theorem dX4_ways_1 : decode cX4_ways 1 = .ok (.aload_n 0, 1) := dk_42 (dk_at dksX4_ways_0 1 rfl rfl)
theorem dX4_ways_2 : decode cX4_ways 2 = .ok (.getfield 27, 3) := dk_180 0 27 (dk_at dksX4_ways_0 2 rfl rfl)
theorem dX4_ways_5 : decode cX4_ways 5 = .ok (.aload_n 0, 1) := dk_42 (dk_at dksX4_ways_0 5 rfl rfl)
theorem dX4_ways_6 : decode cX4_ways 6 = .ok (.getfield 250, 3) := dk_180 0 250 (dk_at dksX4_ways_0 6 rfl rfl)
theorem dX4_ways_9 : decode cX4_ways 9 = .ok (.iaload, 1) := dk_46 (dk_at dksX4_ways_0 9 rfl rfl)
theorem dX4_ways_10 : decode cX4_ways 10 = .ok (.imul, 1) := dk_104 (dk_at dksX4_ways_0 10 rfl rfl)
theorem dX4_ways_11 : decode cX4_ways 11 = .ok (.ireturn, 1) := dk_172 (dk_at dksX4_ways_0 11 rfl rfl)
abbrev cX4_sample : ByteArray := prog_27_method_88_code
def yX4_sample : MethodName := ⟨RX4, "sample", "(IZ)I"⟩
def dkwX4_sample_1 : List UInt8 := [167, 0, 4, 2, 172]
abbrev dktX4_sample_1 : List UInt8 := dkwX4_sample_1 ++ []
def dkwX4_sample_0 : List UInt8 := [42, 27, 182, 1, 102, 153, 0, 22, 42, 3, 27, 28, 153, 0, 7, 4, 167, 0, 4, 3, 3, 182, 1, 167]
abbrev dktX4_sample_0 : List UInt8 := dkwX4_sample_0 ++ dktX4_sample_1
theorem dksX4_sample_0 : cX4_sample.data.toList.drop 0 = dktX4_sample_0 := by decide +kernel
theorem dksX4_sample_1 : cX4_sample.data.toList.drop 24 = dktX4_sample_1 := dk_seg dksX4_sample_0 24 rfl rfl
theorem dX4_sample_0 : decode cX4_sample 0 = .ok (.aload_n 0, 1) := dk_42 (dk_at dksX4_sample_0 0 rfl rfl)
theorem dX4_sample_1 : decode cX4_sample 1 = .ok (.iload_n 1, 1) := dk_27 (dk_at dksX4_sample_0 1 rfl rfl)
theorem dX4_sample_2 : decode cX4_sample 2 = .ok (.invokevirtual 358, 3) := dk_182 1 102 (dk_at dksX4_sample_0 2 rfl rfl)
theorem dX4_sample_5 : decode cX4_sample 5 = .ok (.ifCond .eq 22, 3) := dk_153 0 22 (dk_at dksX4_sample_0 5 rfl rfl)
theorem dX4_sample_8 : decode cX4_sample 8 = .ok (.aload_n 0, 1) := dk_42 (dk_at dksX4_sample_0 8 rfl rfl)
theorem dX4_sample_9 : decode cX4_sample 9 = .ok (.iconst 0, 1) := dk_3 (dk_at dksX4_sample_0 9 rfl rfl)
theorem dX4_sample_10 : decode cX4_sample 10 = .ok (.iload_n 1, 1) := dk_27 (dk_at dksX4_sample_0 10 rfl rfl)
theorem dX4_sample_11 : decode cX4_sample 11 = .ok (.iload_n 2, 1) := dk_28 (dk_at dksX4_sample_0 11 rfl rfl)
theorem dX4_sample_12 : decode cX4_sample 12 = .ok (.ifCond .eq 7, 3) := dk_153 0 7 (dk_at dksX4_sample_0 12 rfl rfl)
theorem dX4_sample_15 : decode cX4_sample 15 = .ok (.iconst 1, 1) := dk_4 (dk_at dksX4_sample_0 15 rfl rfl)
theorem dX4_sample_16 : decode cX4_sample 16 = .ok (.goto 4, 3) := dk_167 0 4 (dk_at dksX4_sample_0 16 rfl rfl)
theorem dX4_sample_19 : decode cX4_sample 19 = .ok (.iconst 0, 1) := dk_3 (dk_at dksX4_sample_0 19 rfl rfl)
theorem dX4_sample_20 : decode cX4_sample 20 = .ok (.iconst 0, 1) := dk_3 (dk_at dksX4_sample_0 20 rfl rfl)
theorem dX4_sample_21 : decode cX4_sample 21 = .ok (.invokevirtual 423, 3) := dk_182 1 167 (dk_at dksX4_sample_0 21 rfl rfl)
theorem dX4_sample_24 : decode cX4_sample 24 = .ok (.goto 4, 3) := dk_167 0 4 (dk_at dksX4_sample_1 0 rfl rfl)
theorem dX4_sample_27 : decode cX4_sample 27 = .ok (.iconst (-1), 1) := dk_2 (dk_at dksX4_sample_1 3 rfl rfl)
theorem dX4_sample_28 : decode cX4_sample 28 = .ok (.ireturn, 1) := dk_172 (dk_at dksX4_sample_1 4 rfl rfl)
abbrev cX4_fact : ByteArray := prog_27_method_87_code
def yX4_fact : MethodName := ⟨RX4, "fact", "(IIII)I"⟩
def dkwX4_fact_3 : List UInt8 := [180, 1, 121, 2, 79, 42, 89, 180, 1, 121, 4, 96, 181, 1, 121, 42, 180, 1, 121, 4, 100, 172]
abbrev dktX4_fact_3 : List UInt8 := dkwX4_fact_3 ++ []
def dkwX4_fact_2 : List UInt8 := [180, 1, 121, 21, 4, 79, 42, 180, 0, 117, 42, 180, 1, 121, 42, 180, 1, 164, 79, 42, 180, 0, 120, 42]
abbrev dktX4_fact_2 : List UInt8 := dkwX4_fact_2 ++ dktX4_fact_3
def dkwX4_fact_1 : List UInt8 := [180, 0, 108, 42, 180, 1, 121, 28, 79, 42, 180, 0, 111, 42, 180, 1, 121, 29, 79, 42, 180, 0, 114, 42]
abbrev dktX4_fact_1 : List UInt8 := dkwX4_fact_1 ++ dktX4_fact_2
def dkwX4_fact_0 : List UInt8 := [42, 180, 1, 121, 16, 40, 160, 0, 5, 2, 172, 42, 180, 0, 105, 42, 180, 1, 121, 27, 79, 42]
abbrev dktX4_fact_0 : List UInt8 := dkwX4_fact_0 ++ dktX4_fact_1
theorem dksX4_fact_0 : cX4_fact.data.toList.drop 0 = dktX4_fact_0 := by decide +kernel
theorem dksX4_fact_1 : cX4_fact.data.toList.drop 22 = dktX4_fact_1 := dk_seg dksX4_fact_0 22 rfl rfl
theorem dksX4_fact_2 : cX4_fact.data.toList.drop 46 = dktX4_fact_2 := dk_seg dksX4_fact_1 24 rfl rfl
theorem dksX4_fact_3 : cX4_fact.data.toList.drop 70 = dktX4_fact_3 := dk_seg dksX4_fact_2 24 rfl rfl
theorem dX4_fact_0 : decode cX4_fact 0 = .ok (.aload_n 0, 1) := dk_42 (dk_at dksX4_fact_0 0 rfl rfl)
theorem dX4_fact_1 : decode cX4_fact 1 = .ok (.getfield 377, 3) := dk_180 1 121 (dk_at dksX4_fact_0 1 rfl rfl)
theorem dX4_fact_4 : decode cX4_fact 4 = .ok (.bipush 40, 2) := dk_16 40 (dk_at dksX4_fact_0 4 rfl rfl)
theorem dX4_fact_6 : decode cX4_fact 6 = .ok (.if_icmp .ne 5, 3) := dk_160 0 5 (dk_at dksX4_fact_0 6 rfl rfl)
theorem dX4_fact_9 : decode cX4_fact 9 = .ok (.iconst (-1), 1) := dk_2 (dk_at dksX4_fact_0 9 rfl rfl)
theorem dX4_fact_10 : decode cX4_fact 10 = .ok (.ireturn, 1) := dk_172 (dk_at dksX4_fact_0 10 rfl rfl)
theorem dX4_fact_11 : decode cX4_fact 11 = .ok (.aload_n 0, 1) := dk_42 (dk_at dksX4_fact_0 11 rfl rfl)
theorem dX4_fact_12 : decode cX4_fact 12 = .ok (.getfield 105, 3) := dk_180 0 105 (dk_at dksX4_fact_0 12 rfl rfl)
theorem dX4_fact_15 : decode cX4_fact 15 = .ok (.aload_n 0, 1) := dk_42 (dk_at dksX4_fact_0 15 rfl rfl)
theorem dX4_fact_16 : decode cX4_fact 16 = .ok (.getfield 377, 3) := dk_180 1 121 (dk_at dksX4_fact_0 16 rfl rfl)
theorem dX4_fact_19 : decode cX4_fact 19 = .ok (.iload_n 1, 1) := dk_27 (dk_at dksX4_fact_0 19 rfl rfl)
theorem dX4_fact_20 : decode cX4_fact 20 = .ok (.iastore, 1) := dk_79 (dk_at dksX4_fact_0 20 rfl rfl)
theorem dX4_fact_21 : decode cX4_fact 21 = .ok (.aload_n 0, 1) := dk_42 (dk_at dksX4_fact_0 21 rfl rfl)
theorem dX4_fact_22 : decode cX4_fact 22 = .ok (.getfield 108, 3) := dk_180 0 108 (dk_at dksX4_fact_1 0 rfl rfl)
theorem dX4_fact_25 : decode cX4_fact 25 = .ok (.aload_n 0, 1) := dk_42 (dk_at dksX4_fact_1 3 rfl rfl)
theorem dX4_fact_26 : decode cX4_fact 26 = .ok (.getfield 377, 3) := dk_180 1 121 (dk_at dksX4_fact_1 4 rfl rfl)
theorem dX4_fact_29 : decode cX4_fact 29 = .ok (.iload_n 2, 1) := dk_28 (dk_at dksX4_fact_1 7 rfl rfl)
theorem dX4_fact_30 : decode cX4_fact 30 = .ok (.iastore, 1) := dk_79 (dk_at dksX4_fact_1 8 rfl rfl)
theorem dX4_fact_31 : decode cX4_fact 31 = .ok (.aload_n 0, 1) := dk_42 (dk_at dksX4_fact_1 9 rfl rfl)
theorem dX4_fact_32 : decode cX4_fact 32 = .ok (.getfield 111, 3) := dk_180 0 111 (dk_at dksX4_fact_1 10 rfl rfl)
theorem dX4_fact_35 : decode cX4_fact 35 = .ok (.aload_n 0, 1) := dk_42 (dk_at dksX4_fact_1 13 rfl rfl)
theorem dX4_fact_36 : decode cX4_fact 36 = .ok (.getfield 377, 3) := dk_180 1 121 (dk_at dksX4_fact_1 14 rfl rfl)
theorem dX4_fact_39 : decode cX4_fact 39 = .ok (.iload_n 3, 1) := dk_29 (dk_at dksX4_fact_1 17 rfl rfl)
theorem dX4_fact_40 : decode cX4_fact 40 = .ok (.iastore, 1) := dk_79 (dk_at dksX4_fact_1 18 rfl rfl)
theorem dX4_fact_41 : decode cX4_fact 41 = .ok (.aload_n 0, 1) := dk_42 (dk_at dksX4_fact_1 19 rfl rfl)
theorem dX4_fact_42 : decode cX4_fact 42 = .ok (.getfield 114, 3) := dk_180 0 114 (dk_at dksX4_fact_1 20 rfl rfl)
theorem dX4_fact_45 : decode cX4_fact 45 = .ok (.aload_n 0, 1) := dk_42 (dk_at dksX4_fact_1 23 rfl rfl)
theorem dX4_fact_46 : decode cX4_fact 46 = .ok (.getfield 377, 3) := dk_180 1 121 (dk_at dksX4_fact_2 0 rfl rfl)
theorem dX4_fact_49 : decode cX4_fact 49 = .ok (.iload 4, 2) := dk_21 4 (dk_at dksX4_fact_2 3 rfl rfl)
theorem dX4_fact_51 : decode cX4_fact 51 = .ok (.iastore, 1) := dk_79 (dk_at dksX4_fact_2 5 rfl rfl)
theorem dX4_fact_52 : decode cX4_fact 52 = .ok (.aload_n 0, 1) := dk_42 (dk_at dksX4_fact_2 6 rfl rfl)
theorem dX4_fact_53 : decode cX4_fact 53 = .ok (.getfield 117, 3) := dk_180 0 117 (dk_at dksX4_fact_2 7 rfl rfl)
theorem dX4_fact_56 : decode cX4_fact 56 = .ok (.aload_n 0, 1) := dk_42 (dk_at dksX4_fact_2 10 rfl rfl)
theorem dX4_fact_57 : decode cX4_fact 57 = .ok (.getfield 377, 3) := dk_180 1 121 (dk_at dksX4_fact_2 11 rfl rfl)
theorem dX4_fact_60 : decode cX4_fact 60 = .ok (.aload_n 0, 1) := dk_42 (dk_at dksX4_fact_2 14 rfl rfl)
theorem dX4_fact_61 : decode cX4_fact 61 = .ok (.getfield 420, 3) := dk_180 1 164 (dk_at dksX4_fact_2 15 rfl rfl)
theorem dX4_fact_64 : decode cX4_fact 64 = .ok (.iastore, 1) := dk_79 (dk_at dksX4_fact_2 18 rfl rfl)
theorem dX4_fact_65 : decode cX4_fact 65 = .ok (.aload_n 0, 1) := dk_42 (dk_at dksX4_fact_2 19 rfl rfl)
theorem dX4_fact_66 : decode cX4_fact 66 = .ok (.getfield 120, 3) := dk_180 0 120 (dk_at dksX4_fact_2 20 rfl rfl)
theorem dX4_fact_69 : decode cX4_fact 69 = .ok (.aload_n 0, 1) := dk_42 (dk_at dksX4_fact_2 23 rfl rfl)
theorem dX4_fact_70 : decode cX4_fact 70 = .ok (.getfield 377, 3) := dk_180 1 121 (dk_at dksX4_fact_3 0 rfl rfl)
theorem dX4_fact_73 : decode cX4_fact 73 = .ok (.iconst (-1), 1) := dk_2 (dk_at dksX4_fact_3 3 rfl rfl)
theorem dX4_fact_74 : decode cX4_fact 74 = .ok (.iastore, 1) := dk_79 (dk_at dksX4_fact_3 4 rfl rfl)
theorem dX4_fact_75 : decode cX4_fact 75 = .ok (.aload_n 0, 1) := dk_42 (dk_at dksX4_fact_3 5 rfl rfl)
theorem dX4_fact_76 : decode cX4_fact 76 = .ok (.dup, 1) := dk_89 (dk_at dksX4_fact_3 6 rfl rfl)
theorem dX4_fact_77 : decode cX4_fact 77 = .ok (.getfield 377, 3) := dk_180 1 121 (dk_at dksX4_fact_3 7 rfl rfl)
theorem dX4_fact_80 : decode cX4_fact 80 = .ok (.iconst 1, 1) := dk_4 (dk_at dksX4_fact_3 10 rfl rfl)
theorem dX4_fact_81 : decode cX4_fact 81 = .ok (.iadd, 1) := dk_96 (dk_at dksX4_fact_3 11 rfl rfl)
theorem dX4_fact_82 : decode cX4_fact 82 = .ok (.putfield 377, 3) := dk_181 1 121 (dk_at dksX4_fact_3 12 rfl rfl)
theorem dX4_fact_85 : decode cX4_fact 85 = .ok (.aload_n 0, 1) := dk_42 (dk_at dksX4_fact_3 15 rfl rfl)
theorem dX4_fact_86 : decode cX4_fact 86 = .ok (.getfield 377, 3) := dk_180 1 121 (dk_at dksX4_fact_3 16 rfl rfl)
theorem dX4_fact_89 : decode cX4_fact 89 = .ok (.iconst 1, 1) := dk_4 (dk_at dksX4_fact_3 19 rfl rfl)
theorem dX4_fact_90 : decode cX4_fact 90 = .ok (.isub, 1) := dk_100 (dk_at dksX4_fact_3 20 rfl rfl)
theorem dX4_fact_91 : decode cX4_fact 91 = .ok (.ireturn, 1) := dk_172 (dk_at dksX4_fact_3 21 rfl rfl)
abbrev cX4_claim : ByteArray := prog_27_method_89_code
def yX4_claim : MethodName := ⟨RX4, "claim", "(III)I"⟩
def dkwX4_claim_1 : List UInt8 := [153, 0, 14, 42, 4, 27, 28, 29, 182, 1, 167, 167, 0, 4, 2, 172]
abbrev dktX4_claim_1 : List UInt8 := dkwX4_claim_1 ++ []
def dkwX4_claim_0 : List UInt8 := [42, 27, 182, 1, 102, 153, 0, 33, 42, 28, 182, 1, 127, 153, 0, 25, 29, 3, 17, 3, 231, 184, 1, 89]
abbrev dktX4_claim_0 : List UInt8 := dkwX4_claim_0 ++ dktX4_claim_1
theorem dksX4_claim_0 : cX4_claim.data.toList.drop 0 = dktX4_claim_0 := by decide +kernel
theorem dksX4_claim_1 : cX4_claim.data.toList.drop 24 = dktX4_claim_1 := dk_seg dksX4_claim_0 24 rfl rfl
theorem dX4_claim_0 : decode cX4_claim 0 = .ok (.aload_n 0, 1) := dk_42 (dk_at dksX4_claim_0 0 rfl rfl)
theorem dX4_claim_1 : decode cX4_claim 1 = .ok (.iload_n 1, 1) := dk_27 (dk_at dksX4_claim_0 1 rfl rfl)
theorem dX4_claim_2 : decode cX4_claim 2 = .ok (.invokevirtual 358, 3) := dk_182 1 102 (dk_at dksX4_claim_0 2 rfl rfl)
theorem dX4_claim_5 : decode cX4_claim 5 = .ok (.ifCond .eq 33, 3) := dk_153 0 33 (dk_at dksX4_claim_0 5 rfl rfl)
theorem dX4_claim_8 : decode cX4_claim 8 = .ok (.aload_n 0, 1) := dk_42 (dk_at dksX4_claim_0 8 rfl rfl)
theorem dX4_claim_9 : decode cX4_claim 9 = .ok (.iload_n 2, 1) := dk_28 (dk_at dksX4_claim_0 9 rfl rfl)
theorem dX4_claim_10 : decode cX4_claim 10 = .ok (.invokevirtual 383, 3) := dk_182 1 127 (dk_at dksX4_claim_0 10 rfl rfl)
theorem dX4_claim_13 : decode cX4_claim 13 = .ok (.ifCond .eq 25, 3) := dk_153 0 25 (dk_at dksX4_claim_0 13 rfl rfl)
theorem dX4_claim_16 : decode cX4_claim 16 = .ok (.iload_n 3, 1) := dk_29 (dk_at dksX4_claim_0 16 rfl rfl)
theorem dX4_claim_17 : decode cX4_claim 17 = .ok (.iconst 0, 1) := dk_3 (dk_at dksX4_claim_0 17 rfl rfl)
theorem dX4_claim_18 : decode cX4_claim 18 = .ok (.sipush 999, 3) := dk_17 3 231 (dk_at dksX4_claim_0 18 rfl rfl)
theorem dX4_claim_21 : decode cX4_claim 21 = .ok (.invokestatic 345, 3) := dk_184 1 89 (dk_at dksX4_claim_0 21 rfl rfl)
theorem dX4_claim_24 : decode cX4_claim 24 = .ok (.ifCond .eq 14, 3) := dk_153 0 14 (dk_at dksX4_claim_1 0 rfl rfl)
theorem dX4_claim_27 : decode cX4_claim 27 = .ok (.aload_n 0, 1) := dk_42 (dk_at dksX4_claim_1 3 rfl rfl)
theorem dX4_claim_28 : decode cX4_claim 28 = .ok (.iconst 1, 1) := dk_4 (dk_at dksX4_claim_1 4 rfl rfl)
theorem dX4_claim_29 : decode cX4_claim 29 = .ok (.iload_n 1, 1) := dk_27 (dk_at dksX4_claim_1 5 rfl rfl)
theorem dX4_claim_30 : decode cX4_claim 30 = .ok (.iload_n 2, 1) := dk_28 (dk_at dksX4_claim_1 6 rfl rfl)
theorem dX4_claim_31 : decode cX4_claim 31 = .ok (.iload_n 3, 1) := dk_29 (dk_at dksX4_claim_1 7 rfl rfl)
theorem dX4_claim_32 : decode cX4_claim 32 = .ok (.invokevirtual 423, 3) := dk_182 1 167 (dk_at dksX4_claim_1 8 rfl rfl)
theorem dX4_claim_35 : decode cX4_claim 35 = .ok (.goto 4, 3) := dk_167 0 4 (dk_at dksX4_claim_1 11 rfl rfl)
theorem dX4_claim_38 : decode cX4_claim 38 = .ok (.iconst (-1), 1) := dk_2 (dk_at dksX4_claim_1 14 rfl rfl)
theorem dX4_claim_39 : decode cX4_claim 39 = .ok (.ireturn, 1) := dk_172 (dk_at dksX4_claim_1 15 rfl rfl)
abbrev cX4_saw : ByteArray := prog_27_method_90_code
def yX4_saw : MethodName := ⟨RX4, "saw", "(IIZ)I"⟩
def dkwX4_saw_1 : List UInt8 := [153, 0, 22, 42, 5, 27, 28, 29, 153, 0, 7, 4, 167, 0, 4, 3, 182, 1, 167, 167, 0, 4, 2, 172]
abbrev dktX4_saw_1 : List UInt8 := dkwX4_saw_1 ++ []
def dkwX4_saw_0 : List UInt8 := [27, 3, 42, 182, 1, 86, 4, 100, 184, 1, 89, 153, 0, 33, 28, 3, 17, 3, 231, 184, 1, 89]
abbrev dktX4_saw_0 : List UInt8 := dkwX4_saw_0 ++ dktX4_saw_1
theorem dksX4_saw_0 : cX4_saw.data.toList.drop 0 = dktX4_saw_0 := by decide +kernel
theorem dksX4_saw_1 : cX4_saw.data.toList.drop 22 = dktX4_saw_1 := dk_seg dksX4_saw_0 22 rfl rfl
theorem dX4_saw_0 : decode cX4_saw 0 = .ok (.iload_n 1, 1) := dk_27 (dk_at dksX4_saw_0 0 rfl rfl)
theorem dX4_saw_1 : decode cX4_saw 1 = .ok (.iconst 0, 1) := dk_3 (dk_at dksX4_saw_0 1 rfl rfl)
theorem dX4_saw_2 : decode cX4_saw 2 = .ok (.aload_n 0, 1) := dk_42 (dk_at dksX4_saw_0 2 rfl rfl)
theorem dX4_saw_3 : decode cX4_saw 3 = .ok (.invokevirtual 342, 3) := dk_182 1 86 (dk_at dksX4_saw_0 3 rfl rfl)
theorem dX4_saw_6 : decode cX4_saw 6 = .ok (.iconst 1, 1) := dk_4 (dk_at dksX4_saw_0 6 rfl rfl)
theorem dX4_saw_7 : decode cX4_saw 7 = .ok (.isub, 1) := dk_100 (dk_at dksX4_saw_0 7 rfl rfl)
theorem dX4_saw_8 : decode cX4_saw 8 = .ok (.invokestatic 345, 3) := dk_184 1 89 (dk_at dksX4_saw_0 8 rfl rfl)
theorem dX4_saw_11 : decode cX4_saw 11 = .ok (.ifCond .eq 33, 3) := dk_153 0 33 (dk_at dksX4_saw_0 11 rfl rfl)
theorem dX4_saw_14 : decode cX4_saw 14 = .ok (.iload_n 2, 1) := dk_28 (dk_at dksX4_saw_0 14 rfl rfl)
theorem dX4_saw_15 : decode cX4_saw 15 = .ok (.iconst 0, 1) := dk_3 (dk_at dksX4_saw_0 15 rfl rfl)
theorem dX4_saw_16 : decode cX4_saw 16 = .ok (.sipush 999, 3) := dk_17 3 231 (dk_at dksX4_saw_0 16 rfl rfl)
theorem dX4_saw_19 : decode cX4_saw 19 = .ok (.invokestatic 345, 3) := dk_184 1 89 (dk_at dksX4_saw_0 19 rfl rfl)
theorem dX4_saw_22 : decode cX4_saw 22 = .ok (.ifCond .eq 22, 3) := dk_153 0 22 (dk_at dksX4_saw_1 0 rfl rfl)
theorem dX4_saw_25 : decode cX4_saw 25 = .ok (.aload_n 0, 1) := dk_42 (dk_at dksX4_saw_1 3 rfl rfl)
theorem dX4_saw_26 : decode cX4_saw 26 = .ok (.iconst 2, 1) := dk_5 (dk_at dksX4_saw_1 4 rfl rfl)
theorem dX4_saw_27 : decode cX4_saw 27 = .ok (.iload_n 1, 1) := dk_27 (dk_at dksX4_saw_1 5 rfl rfl)
theorem dX4_saw_28 : decode cX4_saw 28 = .ok (.iload_n 2, 1) := dk_28 (dk_at dksX4_saw_1 6 rfl rfl)
theorem dX4_saw_29 : decode cX4_saw 29 = .ok (.iload_n 3, 1) := dk_29 (dk_at dksX4_saw_1 7 rfl rfl)
theorem dX4_saw_30 : decode cX4_saw 30 = .ok (.ifCond .eq 7, 3) := dk_153 0 7 (dk_at dksX4_saw_1 8 rfl rfl)
theorem dX4_saw_33 : decode cX4_saw 33 = .ok (.iconst 1, 1) := dk_4 (dk_at dksX4_saw_1 11 rfl rfl)
theorem dX4_saw_34 : decode cX4_saw 34 = .ok (.goto 4, 3) := dk_167 0 4 (dk_at dksX4_saw_1 12 rfl rfl)
theorem dX4_saw_37 : decode cX4_saw 37 = .ok (.iconst 0, 1) := dk_3 (dk_at dksX4_saw_1 15 rfl rfl)
theorem dX4_saw_38 : decode cX4_saw 38 = .ok (.invokevirtual 423, 3) := dk_182 1 167 (dk_at dksX4_saw_1 16 rfl rfl)
theorem dX4_saw_41 : decode cX4_saw 41 = .ok (.goto 4, 3) := dk_167 0 4 (dk_at dksX4_saw_1 19 rfl rfl)
theorem dX4_saw_44 : decode cX4_saw 44 = .ok (.iconst (-1), 1) := dk_2 (dk_at dksX4_saw_1 22 rfl rfl)
theorem dX4_saw_45 : decode cX4_saw 45 = .ok (.ireturn, 1) := dk_172 (dk_at dksX4_saw_1 23 rfl rfl)
abbrev cX4_link : ByteArray := prog_27_method_91_code
def yX4_link : MethodName := ⟨RX4, "link", "(IIZ)I"⟩
def dkwX4_link_1 : List UInt8 := [159, 0, 22, 42, 6, 27, 28, 29, 153, 0, 7, 4, 167, 0, 4, 3, 182, 1, 167, 167, 0, 4, 2, 172]
abbrev dktX4_link_1 : List UInt8 := dkwX4_link_1 ++ []
def dkwX4_link_0 : List UInt8 := [27, 3, 16, 7, 184, 1, 89, 153, 0, 37, 28, 3, 16, 7, 184, 1, 89, 153, 0, 27, 27, 28]
abbrev dktX4_link_0 : List UInt8 := dkwX4_link_0 ++ dktX4_link_1
theorem dksX4_link_0 : cX4_link.data.toList.drop 0 = dktX4_link_0 := by decide +kernel
theorem dksX4_link_1 : cX4_link.data.toList.drop 22 = dktX4_link_1 := dk_seg dksX4_link_0 22 rfl rfl
theorem dX4_link_0 : decode cX4_link 0 = .ok (.iload_n 1, 1) := dk_27 (dk_at dksX4_link_0 0 rfl rfl)
theorem dX4_link_1 : decode cX4_link 1 = .ok (.iconst 0, 1) := dk_3 (dk_at dksX4_link_0 1 rfl rfl)
theorem dX4_link_2 : decode cX4_link 2 = .ok (.bipush 7, 2) := dk_16 7 (dk_at dksX4_link_0 2 rfl rfl)
theorem dX4_link_4 : decode cX4_link 4 = .ok (.invokestatic 345, 3) := dk_184 1 89 (dk_at dksX4_link_0 4 rfl rfl)
theorem dX4_link_7 : decode cX4_link 7 = .ok (.ifCond .eq 37, 3) := dk_153 0 37 (dk_at dksX4_link_0 7 rfl rfl)
theorem dX4_link_10 : decode cX4_link 10 = .ok (.iload_n 2, 1) := dk_28 (dk_at dksX4_link_0 10 rfl rfl)
theorem dX4_link_11 : decode cX4_link 11 = .ok (.iconst 0, 1) := dk_3 (dk_at dksX4_link_0 11 rfl rfl)
theorem dX4_link_12 : decode cX4_link 12 = .ok (.bipush 7, 2) := dk_16 7 (dk_at dksX4_link_0 12 rfl rfl)
theorem dX4_link_14 : decode cX4_link 14 = .ok (.invokestatic 345, 3) := dk_184 1 89 (dk_at dksX4_link_0 14 rfl rfl)
theorem dX4_link_17 : decode cX4_link 17 = .ok (.ifCond .eq 27, 3) := dk_153 0 27 (dk_at dksX4_link_0 17 rfl rfl)
theorem dX4_link_20 : decode cX4_link 20 = .ok (.iload_n 1, 1) := dk_27 (dk_at dksX4_link_0 20 rfl rfl)
theorem dX4_link_21 : decode cX4_link 21 = .ok (.iload_n 2, 1) := dk_28 (dk_at dksX4_link_0 21 rfl rfl)
theorem dX4_link_22 : decode cX4_link 22 = .ok (.if_icmp .eq 22, 3) := dk_159 0 22 (dk_at dksX4_link_1 0 rfl rfl)
theorem dX4_link_25 : decode cX4_link 25 = .ok (.aload_n 0, 1) := dk_42 (dk_at dksX4_link_1 3 rfl rfl)
theorem dX4_link_26 : decode cX4_link 26 = .ok (.iconst 3, 1) := dk_6 (dk_at dksX4_link_1 4 rfl rfl)
theorem dX4_link_27 : decode cX4_link 27 = .ok (.iload_n 1, 1) := dk_27 (dk_at dksX4_link_1 5 rfl rfl)
theorem dX4_link_28 : decode cX4_link 28 = .ok (.iload_n 2, 1) := dk_28 (dk_at dksX4_link_1 6 rfl rfl)
theorem dX4_link_29 : decode cX4_link 29 = .ok (.iload_n 3, 1) := dk_29 (dk_at dksX4_link_1 7 rfl rfl)
theorem dX4_link_30 : decode cX4_link 30 = .ok (.ifCond .eq 7, 3) := dk_153 0 7 (dk_at dksX4_link_1 8 rfl rfl)
theorem dX4_link_33 : decode cX4_link 33 = .ok (.iconst 1, 1) := dk_4 (dk_at dksX4_link_1 11 rfl rfl)
theorem dX4_link_34 : decode cX4_link 34 = .ok (.goto 4, 3) := dk_167 0 4 (dk_at dksX4_link_1 12 rfl rfl)
theorem dX4_link_37 : decode cX4_link 37 = .ok (.iconst 0, 1) := dk_3 (dk_at dksX4_link_1 15 rfl rfl)
theorem dX4_link_38 : decode cX4_link 38 = .ok (.invokevirtual 423, 3) := dk_182 1 167 (dk_at dksX4_link_1 16 rfl rfl)
theorem dX4_link_41 : decode cX4_link 41 = .ok (.goto 4, 3) := dk_167 0 4 (dk_at dksX4_link_1 19 rfl rfl)
theorem dX4_link_44 : decode cX4_link 44 = .ok (.iconst (-1), 1) := dk_2 (dk_at dksX4_link_1 22 rfl rfl)
theorem dX4_link_45 : decode cX4_link 45 = .ok (.ireturn, 1) := dk_172 (dk_at dksX4_link_1 23 rfl rfl)
abbrev cX4_untell : ByteArray := prog_27_method_92_code
def yX4_untell : MethodName := ⟨RX4, "untell", "(I)Z"⟩
def dkwX4_untell_1 : List UInt8 := [172, 42, 180, 0, 120, 27, 42, 180, 1, 164, 79, 4, 172]
abbrev dktX4_untell_1 : List UInt8 := dkwX4_untell_1 ++ []
def dkwX4_untell_0 : List UInt8 := [27, 3, 42, 180, 1, 121, 4, 100, 184, 1, 89, 153, 0, 12, 42, 180, 0, 120, 27, 46, 155, 0, 5, 3]
abbrev dktX4_untell_0 : List UInt8 := dkwX4_untell_0 ++ dktX4_untell_1
theorem dksX4_untell_0 : cX4_untell.data.toList.drop 0 = dktX4_untell_0 := by decide +kernel
theorem dksX4_untell_1 : cX4_untell.data.toList.drop 24 = dktX4_untell_1 := dk_seg dksX4_untell_0 24 rfl rfl
theorem dX4_untell_0 : decode cX4_untell 0 = .ok (.iload_n 1, 1) := dk_27 (dk_at dksX4_untell_0 0 rfl rfl)
theorem dX4_untell_1 : decode cX4_untell 1 = .ok (.iconst 0, 1) := dk_3 (dk_at dksX4_untell_0 1 rfl rfl)
theorem dX4_untell_2 : decode cX4_untell 2 = .ok (.aload_n 0, 1) := dk_42 (dk_at dksX4_untell_0 2 rfl rfl)
theorem dX4_untell_3 : decode cX4_untell 3 = .ok (.getfield 377, 3) := dk_180 1 121 (dk_at dksX4_untell_0 3 rfl rfl)
theorem dX4_untell_6 : decode cX4_untell 6 = .ok (.iconst 1, 1) := dk_4 (dk_at dksX4_untell_0 6 rfl rfl)
theorem dX4_untell_7 : decode cX4_untell 7 = .ok (.isub, 1) := dk_100 (dk_at dksX4_untell_0 7 rfl rfl)
theorem dX4_untell_8 : decode cX4_untell 8 = .ok (.invokestatic 345, 3) := dk_184 1 89 (dk_at dksX4_untell_0 8 rfl rfl)
theorem dX4_untell_11 : decode cX4_untell 11 = .ok (.ifCond .eq 12, 3) := dk_153 0 12 (dk_at dksX4_untell_0 11 rfl rfl)
theorem dX4_untell_14 : decode cX4_untell 14 = .ok (.aload_n 0, 1) := dk_42 (dk_at dksX4_untell_0 14 rfl rfl)
theorem dX4_untell_15 : decode cX4_untell 15 = .ok (.getfield 120, 3) := dk_180 0 120 (dk_at dksX4_untell_0 15 rfl rfl)
theorem dX4_untell_18 : decode cX4_untell 18 = .ok (.iload_n 1, 1) := dk_27 (dk_at dksX4_untell_0 18 rfl rfl)
theorem dX4_untell_19 : decode cX4_untell 19 = .ok (.iaload, 1) := dk_46 (dk_at dksX4_untell_0 19 rfl rfl)
theorem dX4_untell_20 : decode cX4_untell 20 = .ok (.ifCond .lt 5, 3) := dk_155 0 5 (dk_at dksX4_untell_0 20 rfl rfl)
theorem dX4_untell_23 : decode cX4_untell 23 = .ok (.iconst 0, 1) := dk_3 (dk_at dksX4_untell_0 23 rfl rfl)
theorem dX4_untell_24 : decode cX4_untell 24 = .ok (.ireturn, 1) := dk_172 (dk_at dksX4_untell_1 0 rfl rfl)
theorem dX4_untell_25 : decode cX4_untell 25 = .ok (.aload_n 0, 1) := dk_42 (dk_at dksX4_untell_1 1 rfl rfl)
theorem dX4_untell_26 : decode cX4_untell 26 = .ok (.getfield 120, 3) := dk_180 0 120 (dk_at dksX4_untell_1 2 rfl rfl)
theorem dX4_untell_29 : decode cX4_untell 29 = .ok (.iload_n 1, 1) := dk_27 (dk_at dksX4_untell_1 5 rfl rfl)
theorem dX4_untell_30 : decode cX4_untell 30 = .ok (.aload_n 0, 1) := dk_42 (dk_at dksX4_untell_1 6 rfl rfl)
theorem dX4_untell_31 : decode cX4_untell 31 = .ok (.getfield 420, 3) := dk_180 1 164 (dk_at dksX4_untell_1 7 rfl rfl)
theorem dX4_untell_34 : decode cX4_untell 34 = .ok (.iastore, 1) := dk_79 (dk_at dksX4_untell_1 10 rfl rfl)
theorem dX4_untell_35 : decode cX4_untell 35 = .ok (.iconst 1, 1) := dk_4 (dk_at dksX4_untell_1 11 rfl rfl)
theorem dX4_untell_36 : decode cX4_untell 36 = .ok (.ireturn, 1) := dk_172 (dk_at dksX4_untell_1 12 rfl rfl)
abbrev cX4_later : ByteArray := prog_27_method_93_code
def yX4_later : MethodName := ⟨RX4, "later", "(I)I"⟩
def dkwX4_later_1 : List UInt8 := [172, 42, 89, 180, 1, 164, 27, 96, 181, 1, 164, 42, 180, 1, 164, 172]
abbrev dktX4_later_1 : List UInt8 := dkwX4_later_1 ++ []
def dkwX4_later_0 : List UInt8 := [27, 3, 17, 3, 232, 184, 1, 89, 153, 0, 15, 42, 180, 1, 164, 27, 96, 19, 1, 170, 164, 0, 5, 2]
abbrev dktX4_later_0 : List UInt8 := dkwX4_later_0 ++ dktX4_later_1
theorem dksX4_later_0 : cX4_later.data.toList.drop 0 = dktX4_later_0 := by decide +kernel
theorem dksX4_later_1 : cX4_later.data.toList.drop 24 = dktX4_later_1 := dk_seg dksX4_later_0 24 rfl rfl
theorem dX4_later_0 : decode cX4_later 0 = .ok (.iload_n 1, 1) := dk_27 (dk_at dksX4_later_0 0 rfl rfl)
theorem dX4_later_1 : decode cX4_later 1 = .ok (.iconst 0, 1) := dk_3 (dk_at dksX4_later_0 1 rfl rfl)
theorem dX4_later_2 : decode cX4_later 2 = .ok (.sipush 1000, 3) := dk_17 3 232 (dk_at dksX4_later_0 2 rfl rfl)
theorem dX4_later_5 : decode cX4_later 5 = .ok (.invokestatic 345, 3) := dk_184 1 89 (dk_at dksX4_later_0 5 rfl rfl)
theorem dX4_later_8 : decode cX4_later 8 = .ok (.ifCond .eq 15, 3) := dk_153 0 15 (dk_at dksX4_later_0 8 rfl rfl)
theorem dX4_later_11 : decode cX4_later 11 = .ok (.aload_n 0, 1) := dk_42 (dk_at dksX4_later_0 11 rfl rfl)
theorem dX4_later_12 : decode cX4_later 12 = .ok (.getfield 420, 3) := dk_180 1 164 (dk_at dksX4_later_0 12 rfl rfl)
theorem dX4_later_15 : decode cX4_later 15 = .ok (.iload_n 1, 1) := dk_27 (dk_at dksX4_later_0 15 rfl rfl)
theorem dX4_later_16 : decode cX4_later 16 = .ok (.iadd, 1) := dk_96 (dk_at dksX4_later_0 16 rfl rfl)
theorem dX4_later_17 : decode cX4_later 17 = .ok (.ldc_w 426, 3) := dk_19 1 170 (dk_at dksX4_later_0 17 rfl rfl)
theorem dX4_later_20 : decode cX4_later 20 = .ok (.if_icmp .le 5, 3) := dk_164 0 5 (dk_at dksX4_later_0 20 rfl rfl)
theorem dX4_later_23 : decode cX4_later 23 = .ok (.iconst (-1), 1) := dk_2 (dk_at dksX4_later_0 23 rfl rfl)
theorem dX4_later_24 : decode cX4_later 24 = .ok (.ireturn, 1) := dk_172 (dk_at dksX4_later_1 0 rfl rfl)
theorem dX4_later_25 : decode cX4_later 25 = .ok (.aload_n 0, 1) := dk_42 (dk_at dksX4_later_1 1 rfl rfl)
theorem dX4_later_26 : decode cX4_later 26 = .ok (.dup, 1) := dk_89 (dk_at dksX4_later_1 2 rfl rfl)
theorem dX4_later_27 : decode cX4_later 27 = .ok (.getfield 420, 3) := dk_180 1 164 (dk_at dksX4_later_1 3 rfl rfl)
theorem dX4_later_30 : decode cX4_later 30 = .ok (.iload_n 1, 1) := dk_27 (dk_at dksX4_later_1 6 rfl rfl)
theorem dX4_later_31 : decode cX4_later 31 = .ok (.iadd, 1) := dk_96 (dk_at dksX4_later_1 7 rfl rfl)
theorem dX4_later_32 : decode cX4_later 32 = .ok (.putfield 420, 3) := dk_181 1 164 (dk_at dksX4_later_1 8 rfl rfl)
theorem dX4_later_35 : decode cX4_later 35 = .ok (.aload_n 0, 1) := dk_42 (dk_at dksX4_later_1 11 rfl rfl)
theorem dX4_later_36 : decode cX4_later 36 = .ok (.getfield 420, 3) := dk_180 1 164 (dk_at dksX4_later_1 12 rfl rfl)
theorem dX4_later_39 : decode cX4_later 39 = .ok (.ireturn, 1) := dk_172 (dk_at dksX4_later_1 15 rfl rfl)
abbrev cX4_tree : ByteArray := prog_27_method_97_code
def yX4_tree : MethodName := ⟨RX4, "tree", "(III)I"⟩
def dkwX4_tree_8 : List UInt8 := [181, 1, 124, 28, 154, 0, 8, 21, 5, 167, 0, 5, 21, 6, 172]
abbrev dktX4_tree_8 : List UInt8 := dkwX4_tree_8 ++ []
def dkwX4_tree_7 : List UInt8 := [79, 132, 9, 1, 167, 255, 230, 21, 8, 54, 5, 132, 7, 1, 167, 255, 153, 42, 42, 180, 1, 171]
abbrev dktX4_tree_7 : List UInt8 := dkwX4_tree_7 ++ dktX4_tree_8
def dkwX4_tree_6 : List UInt8 := [54, 9, 21, 9, 42, 180, 1, 171, 162, 0, 23, 42, 180, 0, 92, 21, 9, 42, 180, 0, 126, 21, 9, 46]
abbrev dktX4_tree_6 : List UInt8 := dkwX4_tree_6 ++ dktX4_tree_7
def dkwX4_tree_5 : List UInt8 := [21, 8, 21, 5, 162, 0, 7, 4, 167, 0, 7, 21, 6, 4, 96, 54, 6, 21, 6, 4, 160, 0, 35, 3]
abbrev dktX4_tree_5 : List UInt8 := dkwX4_tree_5 ++ dktX4_tree_6
def dkwX4_tree_4 : List UInt8 := [155, 0, 82, 21, 5, 155, 0, 13, 21, 8, 21, 5, 164, 0, 6, 167, 0, 67, 21, 5, 155, 0, 10]
abbrev dktX4_tree_4 : List UInt8 := dkwX4_tree_4 ++ dktX4_tree_5
def dkwX4_tree_3 : List UInt8 := [54, 6, 3, 54, 7, 21, 7, 21, 4, 162, 0, 102, 42, 21, 7, 27, 182, 1, 180, 54, 8, 21, 8]
abbrev dktX4_tree_3 : List UInt8 := dkwX4_tree_3 ++ dktX4_tree_4
def dkwX4_tree_2 : List UInt8 := [162, 0, 20, 21, 4, 42, 180, 1, 171, 4, 100, 104, 54, 4, 132, 5, 1, 167, 255, 233, 2, 54, 5, 3]
abbrev dktX4_tree_2 : List UInt8 := dkwX4_tree_2 ++ dktX4_tree_3
def dkwX4_tree_1 : List UInt8 := [28, 3, 4, 184, 1, 89, 154, 0, 5, 2, 172, 4, 54, 4, 4, 54, 5, 21, 5, 42, 180, 1, 171]
abbrev dktX4_tree_1 : List UInt8 := dkwX4_tree_1 ++ dktX4_tree_2
def dkwX4_tree_0 : List UInt8 := [42, 3, 181, 1, 124, 42, 29, 182, 1, 177, 27, 3, 42, 180, 1, 171, 4, 100, 184, 1, 89, 153, 0, 12]
abbrev dktX4_tree_0 : List UInt8 := dkwX4_tree_0 ++ dktX4_tree_1
theorem dksX4_tree_0 : cX4_tree.data.toList.drop 0 = dktX4_tree_0 := by decide +kernel
theorem dksX4_tree_1 : cX4_tree.data.toList.drop 24 = dktX4_tree_1 := dk_seg dksX4_tree_0 24 rfl rfl
theorem dksX4_tree_2 : cX4_tree.data.toList.drop 47 = dktX4_tree_2 := dk_seg dksX4_tree_1 23 rfl rfl
theorem dksX4_tree_3 : cX4_tree.data.toList.drop 71 = dktX4_tree_3 := dk_seg dksX4_tree_2 24 rfl rfl
theorem dksX4_tree_4 : cX4_tree.data.toList.drop 94 = dktX4_tree_4 := dk_seg dksX4_tree_3 23 rfl rfl
theorem dksX4_tree_5 : cX4_tree.data.toList.drop 117 = dktX4_tree_5 := dk_seg dksX4_tree_4 23 rfl rfl
theorem dksX4_tree_6 : cX4_tree.data.toList.drop 141 = dktX4_tree_6 := dk_seg dksX4_tree_5 24 rfl rfl
theorem dksX4_tree_7 : cX4_tree.data.toList.drop 165 = dktX4_tree_7 := dk_seg dksX4_tree_6 24 rfl rfl
theorem dksX4_tree_8 : cX4_tree.data.toList.drop 187 = dktX4_tree_8 := dk_seg dksX4_tree_7 22 rfl rfl
theorem dX4_tree_0 : decode cX4_tree 0 = .ok (.aload_n 0, 1) := dk_42 (dk_at dksX4_tree_0 0 rfl rfl)
theorem dX4_tree_1 : decode cX4_tree 1 = .ok (.iconst 0, 1) := dk_3 (dk_at dksX4_tree_0 1 rfl rfl)
theorem dX4_tree_2 : decode cX4_tree 2 = .ok (.putfield 380, 3) := dk_181 1 124 (dk_at dksX4_tree_0 2 rfl rfl)
theorem dX4_tree_5 : decode cX4_tree 5 = .ok (.aload_n 0, 1) := dk_42 (dk_at dksX4_tree_0 5 rfl rfl)
theorem dX4_tree_6 : decode cX4_tree 6 = .ok (.iload_n 3, 1) := dk_29 (dk_at dksX4_tree_0 6 rfl rfl)
theorem dX4_tree_7 : decode cX4_tree 7 = .ok (.invokevirtual 433, 3) := dk_182 1 177 (dk_at dksX4_tree_0 7 rfl rfl)
theorem dX4_tree_10 : decode cX4_tree 10 = .ok (.iload_n 1, 1) := dk_27 (dk_at dksX4_tree_0 10 rfl rfl)
theorem dX4_tree_11 : decode cX4_tree 11 = .ok (.iconst 0, 1) := dk_3 (dk_at dksX4_tree_0 11 rfl rfl)
theorem dX4_tree_12 : decode cX4_tree 12 = .ok (.aload_n 0, 1) := dk_42 (dk_at dksX4_tree_0 12 rfl rfl)
theorem dX4_tree_13 : decode cX4_tree 13 = .ok (.getfield 427, 3) := dk_180 1 171 (dk_at dksX4_tree_0 13 rfl rfl)
theorem dX4_tree_16 : decode cX4_tree 16 = .ok (.iconst 1, 1) := dk_4 (dk_at dksX4_tree_0 16 rfl rfl)
theorem dX4_tree_17 : decode cX4_tree 17 = .ok (.isub, 1) := dk_100 (dk_at dksX4_tree_0 17 rfl rfl)
theorem dX4_tree_18 : decode cX4_tree 18 = .ok (.invokestatic 345, 3) := dk_184 1 89 (dk_at dksX4_tree_0 18 rfl rfl)
theorem dX4_tree_21 : decode cX4_tree 21 = .ok (.ifCond .eq 12, 3) := dk_153 0 12 (dk_at dksX4_tree_0 21 rfl rfl)
theorem dX4_tree_24 : decode cX4_tree 24 = .ok (.iload_n 2, 1) := dk_28 (dk_at dksX4_tree_1 0 rfl rfl)
theorem dX4_tree_25 : decode cX4_tree 25 = .ok (.iconst 0, 1) := dk_3 (dk_at dksX4_tree_1 1 rfl rfl)
theorem dX4_tree_26 : decode cX4_tree 26 = .ok (.iconst 1, 1) := dk_4 (dk_at dksX4_tree_1 2 rfl rfl)
theorem dX4_tree_27 : decode cX4_tree 27 = .ok (.invokestatic 345, 3) := dk_184 1 89 (dk_at dksX4_tree_1 3 rfl rfl)
theorem dX4_tree_30 : decode cX4_tree 30 = .ok (.ifCond .ne 5, 3) := dk_154 0 5 (dk_at dksX4_tree_1 6 rfl rfl)
theorem dX4_tree_33 : decode cX4_tree 33 = .ok (.iconst (-1), 1) := dk_2 (dk_at dksX4_tree_1 9 rfl rfl)
theorem dX4_tree_34 : decode cX4_tree 34 = .ok (.ireturn, 1) := dk_172 (dk_at dksX4_tree_1 10 rfl rfl)
theorem dX4_tree_35 : decode cX4_tree 35 = .ok (.iconst 1, 1) := dk_4 (dk_at dksX4_tree_1 11 rfl rfl)
theorem dX4_tree_36 : decode cX4_tree 36 = .ok (.istore 4, 2) := dk_54 4 (dk_at dksX4_tree_1 12 rfl rfl)
theorem dX4_tree_38 : decode cX4_tree 38 = .ok (.iconst 1, 1) := dk_4 (dk_at dksX4_tree_1 14 rfl rfl)
theorem dX4_tree_39 : decode cX4_tree 39 = .ok (.istore 5, 2) := dk_54 5 (dk_at dksX4_tree_1 15 rfl rfl)
theorem dX4_tree_41 : decode cX4_tree 41 = .ok (.iload 5, 2) := dk_21 5 (dk_at dksX4_tree_1 17 rfl rfl)
theorem dX4_tree_43 : decode cX4_tree 43 = .ok (.aload_n 0, 1) := dk_42 (dk_at dksX4_tree_1 19 rfl rfl)
theorem dX4_tree_44 : decode cX4_tree 44 = .ok (.getfield 427, 3) := dk_180 1 171 (dk_at dksX4_tree_1 20 rfl rfl)
theorem dX4_tree_47 : decode cX4_tree 47 = .ok (.if_icmp .ge 20, 3) := dk_162 0 20 (dk_at dksX4_tree_2 0 rfl rfl)
theorem dX4_tree_50 : decode cX4_tree 50 = .ok (.iload 4, 2) := dk_21 4 (dk_at dksX4_tree_2 3 rfl rfl)
theorem dX4_tree_52 : decode cX4_tree 52 = .ok (.aload_n 0, 1) := dk_42 (dk_at dksX4_tree_2 5 rfl rfl)
theorem dX4_tree_53 : decode cX4_tree 53 = .ok (.getfield 427, 3) := dk_180 1 171 (dk_at dksX4_tree_2 6 rfl rfl)
theorem dX4_tree_56 : decode cX4_tree 56 = .ok (.iconst 1, 1) := dk_4 (dk_at dksX4_tree_2 9 rfl rfl)
theorem dX4_tree_57 : decode cX4_tree 57 = .ok (.isub, 1) := dk_100 (dk_at dksX4_tree_2 10 rfl rfl)
theorem dX4_tree_58 : decode cX4_tree 58 = .ok (.imul, 1) := dk_104 (dk_at dksX4_tree_2 11 rfl rfl)
theorem dX4_tree_59 : decode cX4_tree 59 = .ok (.istore 4, 2) := dk_54 4 (dk_at dksX4_tree_2 12 rfl rfl)
theorem dX4_tree_61 : decode cX4_tree 61 = .ok (.iinc 5 1, 3) := dk_132 5 1 (dk_at dksX4_tree_2 14 rfl rfl)
theorem dX4_tree_64 : decode cX4_tree 64 = .ok (.goto (-23), 3) := dk_167 255 233 (dk_at dksX4_tree_2 17 rfl rfl)
theorem dX4_tree_67 : decode cX4_tree 67 = .ok (.iconst (-1), 1) := dk_2 (dk_at dksX4_tree_2 20 rfl rfl)
theorem dX4_tree_68 : decode cX4_tree 68 = .ok (.istore 5, 2) := dk_54 5 (dk_at dksX4_tree_2 21 rfl rfl)
theorem dX4_tree_70 : decode cX4_tree 70 = .ok (.iconst 0, 1) := dk_3 (dk_at dksX4_tree_2 23 rfl rfl)
theorem dX4_tree_71 : decode cX4_tree 71 = .ok (.istore 6, 2) := dk_54 6 (dk_at dksX4_tree_3 0 rfl rfl)
theorem dX4_tree_73 : decode cX4_tree 73 = .ok (.iconst 0, 1) := dk_3 (dk_at dksX4_tree_3 2 rfl rfl)
theorem dX4_tree_74 : decode cX4_tree 74 = .ok (.istore 7, 2) := dk_54 7 (dk_at dksX4_tree_3 3 rfl rfl)
theorem dX4_tree_76 : decode cX4_tree 76 = .ok (.iload 7, 2) := dk_21 7 (dk_at dksX4_tree_3 5 rfl rfl)
theorem dX4_tree_78 : decode cX4_tree 78 = .ok (.iload 4, 2) := dk_21 4 (dk_at dksX4_tree_3 7 rfl rfl)
theorem dX4_tree_80 : decode cX4_tree 80 = .ok (.if_icmp .ge 102, 3) := dk_162 0 102 (dk_at dksX4_tree_3 9 rfl rfl)
theorem dX4_tree_83 : decode cX4_tree 83 = .ok (.aload_n 0, 1) := dk_42 (dk_at dksX4_tree_3 12 rfl rfl)
theorem dX4_tree_84 : decode cX4_tree 84 = .ok (.iload 7, 2) := dk_21 7 (dk_at dksX4_tree_3 13 rfl rfl)
theorem dX4_tree_86 : decode cX4_tree 86 = .ok (.iload_n 1, 1) := dk_27 (dk_at dksX4_tree_3 15 rfl rfl)
theorem dX4_tree_87 : decode cX4_tree 87 = .ok (.invokevirtual 436, 3) := dk_182 1 180 (dk_at dksX4_tree_3 16 rfl rfl)
theorem dX4_tree_90 : decode cX4_tree 90 = .ok (.istore 8, 2) := dk_54 8 (dk_at dksX4_tree_3 19 rfl rfl)
theorem dX4_tree_92 : decode cX4_tree 92 = .ok (.iload 8, 2) := dk_21 8 (dk_at dksX4_tree_3 21 rfl rfl)
theorem dX4_tree_94 : decode cX4_tree 94 = .ok (.ifCond .lt 82, 3) := dk_155 0 82 (dk_at dksX4_tree_4 0 rfl rfl)
theorem dX4_tree_97 : decode cX4_tree 97 = .ok (.iload 5, 2) := dk_21 5 (dk_at dksX4_tree_4 3 rfl rfl)
theorem dX4_tree_99 : decode cX4_tree 99 = .ok (.ifCond .lt 13, 3) := dk_155 0 13 (dk_at dksX4_tree_4 5 rfl rfl)
theorem dX4_tree_102 : decode cX4_tree 102 = .ok (.iload 8, 2) := dk_21 8 (dk_at dksX4_tree_4 8 rfl rfl)
theorem dX4_tree_104 : decode cX4_tree 104 = .ok (.iload 5, 2) := dk_21 5 (dk_at dksX4_tree_4 10 rfl rfl)
theorem dX4_tree_106 : decode cX4_tree 106 = .ok (.if_icmp .le 6, 3) := dk_164 0 6 (dk_at dksX4_tree_4 12 rfl rfl)
theorem dX4_tree_109 : decode cX4_tree 109 = .ok (.goto 67, 3) := dk_167 0 67 (dk_at dksX4_tree_4 15 rfl rfl)
theorem dX4_tree_112 : decode cX4_tree 112 = .ok (.iload 5, 2) := dk_21 5 (dk_at dksX4_tree_4 18 rfl rfl)
theorem dX4_tree_114 : decode cX4_tree 114 = .ok (.ifCond .lt 10, 3) := dk_155 0 10 (dk_at dksX4_tree_4 20 rfl rfl)
theorem dX4_tree_117 : decode cX4_tree 117 = .ok (.iload 8, 2) := dk_21 8 (dk_at dksX4_tree_5 0 rfl rfl)
theorem dX4_tree_119 : decode cX4_tree 119 = .ok (.iload 5, 2) := dk_21 5 (dk_at dksX4_tree_5 2 rfl rfl)
theorem dX4_tree_121 : decode cX4_tree 121 = .ok (.if_icmp .ge 7, 3) := dk_162 0 7 (dk_at dksX4_tree_5 4 rfl rfl)
theorem dX4_tree_124 : decode cX4_tree 124 = .ok (.iconst 1, 1) := dk_4 (dk_at dksX4_tree_5 7 rfl rfl)
theorem dX4_tree_125 : decode cX4_tree 125 = .ok (.goto 7, 3) := dk_167 0 7 (dk_at dksX4_tree_5 8 rfl rfl)
theorem dX4_tree_128 : decode cX4_tree 128 = .ok (.iload 6, 2) := dk_21 6 (dk_at dksX4_tree_5 11 rfl rfl)
theorem dX4_tree_130 : decode cX4_tree 130 = .ok (.iconst 1, 1) := dk_4 (dk_at dksX4_tree_5 13 rfl rfl)
theorem dX4_tree_131 : decode cX4_tree 131 = .ok (.iadd, 1) := dk_96 (dk_at dksX4_tree_5 14 rfl rfl)
theorem dX4_tree_132 : decode cX4_tree 132 = .ok (.istore 6, 2) := dk_54 6 (dk_at dksX4_tree_5 15 rfl rfl)
theorem dX4_tree_134 : decode cX4_tree 134 = .ok (.iload 6, 2) := dk_21 6 (dk_at dksX4_tree_5 17 rfl rfl)
theorem dX4_tree_136 : decode cX4_tree 136 = .ok (.iconst 1, 1) := dk_4 (dk_at dksX4_tree_5 19 rfl rfl)
theorem dX4_tree_137 : decode cX4_tree 137 = .ok (.if_icmp .ne 35, 3) := dk_160 0 35 (dk_at dksX4_tree_5 20 rfl rfl)
theorem dX4_tree_140 : decode cX4_tree 140 = .ok (.iconst 0, 1) := dk_3 (dk_at dksX4_tree_5 23 rfl rfl)
theorem dX4_tree_141 : decode cX4_tree 141 = .ok (.istore 9, 2) := dk_54 9 (dk_at dksX4_tree_6 0 rfl rfl)
theorem dX4_tree_143 : decode cX4_tree 143 = .ok (.iload 9, 2) := dk_21 9 (dk_at dksX4_tree_6 2 rfl rfl)
theorem dX4_tree_145 : decode cX4_tree 145 = .ok (.aload_n 0, 1) := dk_42 (dk_at dksX4_tree_6 4 rfl rfl)
theorem dX4_tree_146 : decode cX4_tree 146 = .ok (.getfield 427, 3) := dk_180 1 171 (dk_at dksX4_tree_6 5 rfl rfl)
theorem dX4_tree_149 : decode cX4_tree 149 = .ok (.if_icmp .ge 23, 3) := dk_162 0 23 (dk_at dksX4_tree_6 8 rfl rfl)
theorem dX4_tree_152 : decode cX4_tree 152 = .ok (.aload_n 0, 1) := dk_42 (dk_at dksX4_tree_6 11 rfl rfl)
theorem dX4_tree_153 : decode cX4_tree 153 = .ok (.getfield 92, 3) := dk_180 0 92 (dk_at dksX4_tree_6 12 rfl rfl)
theorem dX4_tree_156 : decode cX4_tree 156 = .ok (.iload 9, 2) := dk_21 9 (dk_at dksX4_tree_6 15 rfl rfl)
theorem dX4_tree_158 : decode cX4_tree 158 = .ok (.aload_n 0, 1) := dk_42 (dk_at dksX4_tree_6 17 rfl rfl)
theorem dX4_tree_159 : decode cX4_tree 159 = .ok (.getfield 126, 3) := dk_180 0 126 (dk_at dksX4_tree_6 18 rfl rfl)
theorem dX4_tree_162 : decode cX4_tree 162 = .ok (.iload 9, 2) := dk_21 9 (dk_at dksX4_tree_6 21 rfl rfl)
theorem dX4_tree_164 : decode cX4_tree 164 = .ok (.iaload, 1) := dk_46 (dk_at dksX4_tree_6 23 rfl rfl)
theorem dX4_tree_165 : decode cX4_tree 165 = .ok (.iastore, 1) := dk_79 (dk_at dksX4_tree_7 0 rfl rfl)
theorem dX4_tree_166 : decode cX4_tree 166 = .ok (.iinc 9 1, 3) := dk_132 9 1 (dk_at dksX4_tree_7 1 rfl rfl)
theorem dX4_tree_169 : decode cX4_tree 169 = .ok (.goto (-26), 3) := dk_167 255 230 (dk_at dksX4_tree_7 4 rfl rfl)
theorem dX4_tree_172 : decode cX4_tree 172 = .ok (.iload 8, 2) := dk_21 8 (dk_at dksX4_tree_7 7 rfl rfl)
theorem dX4_tree_174 : decode cX4_tree 174 = .ok (.istore 5, 2) := dk_54 5 (dk_at dksX4_tree_7 9 rfl rfl)
theorem dX4_tree_176 : decode cX4_tree 176 = .ok (.iinc 7 1, 3) := dk_132 7 1 (dk_at dksX4_tree_7 11 rfl rfl)
theorem dX4_tree_179 : decode cX4_tree 179 = .ok (.goto (-103), 3) := dk_167 255 153 (dk_at dksX4_tree_7 14 rfl rfl)
theorem dX4_tree_182 : decode cX4_tree 182 = .ok (.aload_n 0, 1) := dk_42 (dk_at dksX4_tree_7 17 rfl rfl)
theorem dX4_tree_183 : decode cX4_tree 183 = .ok (.aload_n 0, 1) := dk_42 (dk_at dksX4_tree_7 18 rfl rfl)
theorem dX4_tree_184 : decode cX4_tree 184 = .ok (.getfield 427, 3) := dk_180 1 171 (dk_at dksX4_tree_7 19 rfl rfl)
theorem dX4_tree_187 : decode cX4_tree 187 = .ok (.putfield 380, 3) := dk_181 1 124 (dk_at dksX4_tree_8 0 rfl rfl)
theorem dX4_tree_190 : decode cX4_tree 190 = .ok (.iload_n 2, 1) := dk_28 (dk_at dksX4_tree_8 3 rfl rfl)
theorem dX4_tree_191 : decode cX4_tree 191 = .ok (.ifCond .ne 8, 3) := dk_154 0 8 (dk_at dksX4_tree_8 4 rfl rfl)
theorem dX4_tree_194 : decode cX4_tree 194 = .ok (.iload 5, 2) := dk_21 5 (dk_at dksX4_tree_8 7 rfl rfl)
theorem dX4_tree_196 : decode cX4_tree 196 = .ok (.goto 5, 3) := dk_167 0 5 (dk_at dksX4_tree_8 9 rfl rfl)
theorem dX4_tree_199 : decode cX4_tree 199 = .ok (.iload 6, 2) := dk_21 6 (dk_at dksX4_tree_8 12 rfl rfl)
theorem dX4_tree_201 : decode cX4_tree 201 = .ok (.ireturn, 1) := dk_172 (dk_at dksX4_tree_8 14 rfl rfl)
abbrev cX4_laySamples : ByteArray := prog_27_method_95_code
def yX4_laySamples : MethodName := ⟨RX4, "laySamples", "(I)V"⟩
def dkwX4_laySamples_6 : List UInt8 := [104, 96, 79, 132, 4, 1, 167, 255, 201, 132, 2, 1, 167, 255, 173, 177]
abbrev dktX4_laySamples_6 : List UInt8 := dkwX4_laySamples_6 ++ []
def dkwX4_laySamples_5 : List UInt8 := [21, 4, 46, 2, 130, 126, 184, 1, 96, 5, 42, 180, 0, 123, 21, 4, 46, 29, 2, 130, 126, 184, 1, 96]
abbrev dktX4_laySamples_5 : List UInt8 := dkwX4_laySamples_5 ++ dktX4_laySamples_6
def dkwX4_laySamples_4 : List UInt8 := [42, 180, 1, 171, 162, 0, 52, 42, 180, 0, 129, 16, 7, 28, 104, 21, 4, 96, 29, 42, 180, 0, 123]
abbrev dktX4_laySamples_4 : List UInt8 := dkwX4_laySamples_4 ++ dktX4_laySamples_5
def dkwX4_laySamples_3 : List UInt8 := [28, 42, 180, 1, 171, 162, 0, 81, 42, 42, 180, 0, 123, 28, 46, 182, 1, 93, 62, 3, 54, 4, 21, 4]
abbrev dktX4_laySamples_3 : List UInt8 := dkwX4_laySamples_3 ++ dktX4_laySamples_4
def dkwX4_laySamples_2 : List UInt8 := [180, 0, 108, 28, 46, 79, 42, 89, 180, 1, 171, 4, 96, 181, 1, 171, 132, 2, 1, 167, 255, 198, 3, 61]
abbrev dktX4_laySamples_2 : List UInt8 := dkwX4_laySamples_2 ++ dktX4_laySamples_3
def dkwX4_laySamples_1 : List UInt8 := [42, 28, 3, 27, 182, 1, 174, 154, 0, 6, 167, 0, 28, 42, 180, 0, 123, 42, 180, 1, 171, 42]
abbrev dktX4_laySamples_1 : List UInt8 := dkwX4_laySamples_1 ++ dktX4_laySamples_2
def dkwX4_laySamples_0 : List UInt8 := [42, 3, 181, 1, 171, 3, 61, 28, 42, 180, 1, 121, 162, 0, 56, 42, 180, 1, 171, 16, 7, 162, 0, 47]
abbrev dktX4_laySamples_0 : List UInt8 := dkwX4_laySamples_0 ++ dktX4_laySamples_1
theorem dksX4_laySamples_0 : cX4_laySamples.data.toList.drop 0 = dktX4_laySamples_0 := by decide +kernel
theorem dksX4_laySamples_1 : cX4_laySamples.data.toList.drop 24 = dktX4_laySamples_1 := dk_seg dksX4_laySamples_0 24 rfl rfl
theorem dksX4_laySamples_2 : cX4_laySamples.data.toList.drop 46 = dktX4_laySamples_2 := dk_seg dksX4_laySamples_1 22 rfl rfl
theorem dksX4_laySamples_3 : cX4_laySamples.data.toList.drop 70 = dktX4_laySamples_3 := dk_seg dksX4_laySamples_2 24 rfl rfl
theorem dksX4_laySamples_4 : cX4_laySamples.data.toList.drop 94 = dktX4_laySamples_4 := dk_seg dksX4_laySamples_3 24 rfl rfl
theorem dksX4_laySamples_5 : cX4_laySamples.data.toList.drop 117 = dktX4_laySamples_5 := dk_seg dksX4_laySamples_4 23 rfl rfl
theorem dksX4_laySamples_6 : cX4_laySamples.data.toList.drop 141 = dktX4_laySamples_6 := dk_seg dksX4_laySamples_5 24 rfl rfl
theorem dX4_laySamples_0 : decode cX4_laySamples 0 = .ok (.aload_n 0, 1) := dk_42 (dk_at dksX4_laySamples_0 0 rfl rfl)
theorem dX4_laySamples_1 : decode cX4_laySamples 1 = .ok (.iconst 0, 1) := dk_3 (dk_at dksX4_laySamples_0 1 rfl rfl)
theorem dX4_laySamples_2 : decode cX4_laySamples 2 = .ok (.putfield 427, 3) := dk_181 1 171 (dk_at dksX4_laySamples_0 2 rfl rfl)
theorem dX4_laySamples_5 : decode cX4_laySamples 5 = .ok (.iconst 0, 1) := dk_3 (dk_at dksX4_laySamples_0 5 rfl rfl)
theorem dX4_laySamples_6 : decode cX4_laySamples 6 = .ok (.istore_n 2, 1) := dk_61 (dk_at dksX4_laySamples_0 6 rfl rfl)
theorem dX4_laySamples_7 : decode cX4_laySamples 7 = .ok (.iload_n 2, 1) := dk_28 (dk_at dksX4_laySamples_0 7 rfl rfl)
theorem dX4_laySamples_8 : decode cX4_laySamples 8 = .ok (.aload_n 0, 1) := dk_42 (dk_at dksX4_laySamples_0 8 rfl rfl)
theorem dX4_laySamples_9 : decode cX4_laySamples 9 = .ok (.getfield 377, 3) := dk_180 1 121 (dk_at dksX4_laySamples_0 9 rfl rfl)
theorem dX4_laySamples_12 : decode cX4_laySamples 12 = .ok (.if_icmp .ge 56, 3) := dk_162 0 56 (dk_at dksX4_laySamples_0 12 rfl rfl)
theorem dX4_laySamples_15 : decode cX4_laySamples 15 = .ok (.aload_n 0, 1) := dk_42 (dk_at dksX4_laySamples_0 15 rfl rfl)
theorem dX4_laySamples_16 : decode cX4_laySamples 16 = .ok (.getfield 427, 3) := dk_180 1 171 (dk_at dksX4_laySamples_0 16 rfl rfl)
theorem dX4_laySamples_19 : decode cX4_laySamples 19 = .ok (.bipush 7, 2) := dk_16 7 (dk_at dksX4_laySamples_0 19 rfl rfl)
theorem dX4_laySamples_21 : decode cX4_laySamples 21 = .ok (.if_icmp .ge 47, 3) := dk_162 0 47 (dk_at dksX4_laySamples_0 21 rfl rfl)
theorem dX4_laySamples_24 : decode cX4_laySamples 24 = .ok (.aload_n 0, 1) := dk_42 (dk_at dksX4_laySamples_1 0 rfl rfl)
theorem dX4_laySamples_25 : decode cX4_laySamples 25 = .ok (.iload_n 2, 1) := dk_28 (dk_at dksX4_laySamples_1 1 rfl rfl)
theorem dX4_laySamples_26 : decode cX4_laySamples 26 = .ok (.iconst 0, 1) := dk_3 (dk_at dksX4_laySamples_1 2 rfl rfl)
theorem dX4_laySamples_27 : decode cX4_laySamples 27 = .ok (.iload_n 1, 1) := dk_27 (dk_at dksX4_laySamples_1 3 rfl rfl)
theorem dX4_laySamples_28 : decode cX4_laySamples 28 = .ok (.invokevirtual 430, 3) := dk_182 1 174 (dk_at dksX4_laySamples_1 4 rfl rfl)
theorem dX4_laySamples_31 : decode cX4_laySamples 31 = .ok (.ifCond .ne 6, 3) := dk_154 0 6 (dk_at dksX4_laySamples_1 7 rfl rfl)
theorem dX4_laySamples_34 : decode cX4_laySamples 34 = .ok (.goto 28, 3) := dk_167 0 28 (dk_at dksX4_laySamples_1 10 rfl rfl)
theorem dX4_laySamples_37 : decode cX4_laySamples 37 = .ok (.aload_n 0, 1) := dk_42 (dk_at dksX4_laySamples_1 13 rfl rfl)
theorem dX4_laySamples_38 : decode cX4_laySamples 38 = .ok (.getfield 123, 3) := dk_180 0 123 (dk_at dksX4_laySamples_1 14 rfl rfl)
theorem dX4_laySamples_41 : decode cX4_laySamples 41 = .ok (.aload_n 0, 1) := dk_42 (dk_at dksX4_laySamples_1 17 rfl rfl)
theorem dX4_laySamples_42 : decode cX4_laySamples 42 = .ok (.getfield 427, 3) := dk_180 1 171 (dk_at dksX4_laySamples_1 18 rfl rfl)
theorem dX4_laySamples_45 : decode cX4_laySamples 45 = .ok (.aload_n 0, 1) := dk_42 (dk_at dksX4_laySamples_1 21 rfl rfl)
theorem dX4_laySamples_46 : decode cX4_laySamples 46 = .ok (.getfield 108, 3) := dk_180 0 108 (dk_at dksX4_laySamples_2 0 rfl rfl)
theorem dX4_laySamples_49 : decode cX4_laySamples 49 = .ok (.iload_n 2, 1) := dk_28 (dk_at dksX4_laySamples_2 3 rfl rfl)
theorem dX4_laySamples_50 : decode cX4_laySamples 50 = .ok (.iaload, 1) := dk_46 (dk_at dksX4_laySamples_2 4 rfl rfl)
theorem dX4_laySamples_51 : decode cX4_laySamples 51 = .ok (.iastore, 1) := dk_79 (dk_at dksX4_laySamples_2 5 rfl rfl)
theorem dX4_laySamples_52 : decode cX4_laySamples 52 = .ok (.aload_n 0, 1) := dk_42 (dk_at dksX4_laySamples_2 6 rfl rfl)
theorem dX4_laySamples_53 : decode cX4_laySamples 53 = .ok (.dup, 1) := dk_89 (dk_at dksX4_laySamples_2 7 rfl rfl)
theorem dX4_laySamples_54 : decode cX4_laySamples 54 = .ok (.getfield 427, 3) := dk_180 1 171 (dk_at dksX4_laySamples_2 8 rfl rfl)
theorem dX4_laySamples_57 : decode cX4_laySamples 57 = .ok (.iconst 1, 1) := dk_4 (dk_at dksX4_laySamples_2 11 rfl rfl)
theorem dX4_laySamples_58 : decode cX4_laySamples 58 = .ok (.iadd, 1) := dk_96 (dk_at dksX4_laySamples_2 12 rfl rfl)
theorem dX4_laySamples_59 : decode cX4_laySamples 59 = .ok (.putfield 427, 3) := dk_181 1 171 (dk_at dksX4_laySamples_2 13 rfl rfl)
theorem dX4_laySamples_62 : decode cX4_laySamples 62 = .ok (.iinc 2 1, 3) := dk_132 2 1 (dk_at dksX4_laySamples_2 16 rfl rfl)
theorem dX4_laySamples_65 : decode cX4_laySamples 65 = .ok (.goto (-58), 3) := dk_167 255 198 (dk_at dksX4_laySamples_2 19 rfl rfl)
theorem dX4_laySamples_68 : decode cX4_laySamples 68 = .ok (.iconst 0, 1) := dk_3 (dk_at dksX4_laySamples_2 22 rfl rfl)
theorem dX4_laySamples_69 : decode cX4_laySamples 69 = .ok (.istore_n 2, 1) := dk_61 (dk_at dksX4_laySamples_2 23 rfl rfl)
theorem dX4_laySamples_70 : decode cX4_laySamples 70 = .ok (.iload_n 2, 1) := dk_28 (dk_at dksX4_laySamples_3 0 rfl rfl)
theorem dX4_laySamples_71 : decode cX4_laySamples 71 = .ok (.aload_n 0, 1) := dk_42 (dk_at dksX4_laySamples_3 1 rfl rfl)
theorem dX4_laySamples_72 : decode cX4_laySamples 72 = .ok (.getfield 427, 3) := dk_180 1 171 (dk_at dksX4_laySamples_3 2 rfl rfl)
theorem dX4_laySamples_75 : decode cX4_laySamples 75 = .ok (.if_icmp .ge 81, 3) := dk_162 0 81 (dk_at dksX4_laySamples_3 5 rfl rfl)
theorem dX4_laySamples_78 : decode cX4_laySamples 78 = .ok (.aload_n 0, 1) := dk_42 (dk_at dksX4_laySamples_3 8 rfl rfl)
theorem dX4_laySamples_79 : decode cX4_laySamples 79 = .ok (.aload_n 0, 1) := dk_42 (dk_at dksX4_laySamples_3 9 rfl rfl)
theorem dX4_laySamples_80 : decode cX4_laySamples 80 = .ok (.getfield 123, 3) := dk_180 0 123 (dk_at dksX4_laySamples_3 10 rfl rfl)
theorem dX4_laySamples_83 : decode cX4_laySamples 83 = .ok (.iload_n 2, 1) := dk_28 (dk_at dksX4_laySamples_3 13 rfl rfl)
theorem dX4_laySamples_84 : decode cX4_laySamples 84 = .ok (.iaload, 1) := dk_46 (dk_at dksX4_laySamples_3 14 rfl rfl)
theorem dX4_laySamples_85 : decode cX4_laySamples 85 = .ok (.invokevirtual 349, 3) := dk_182 1 93 (dk_at dksX4_laySamples_3 15 rfl rfl)
theorem dX4_laySamples_88 : decode cX4_laySamples 88 = .ok (.istore_n 3, 1) := dk_62 (dk_at dksX4_laySamples_3 18 rfl rfl)
theorem dX4_laySamples_89 : decode cX4_laySamples 89 = .ok (.iconst 0, 1) := dk_3 (dk_at dksX4_laySamples_3 19 rfl rfl)
theorem dX4_laySamples_90 : decode cX4_laySamples 90 = .ok (.istore 4, 2) := dk_54 4 (dk_at dksX4_laySamples_3 20 rfl rfl)
theorem dX4_laySamples_92 : decode cX4_laySamples 92 = .ok (.iload 4, 2) := dk_21 4 (dk_at dksX4_laySamples_3 22 rfl rfl)
theorem dX4_laySamples_94 : decode cX4_laySamples 94 = .ok (.aload_n 0, 1) := dk_42 (dk_at dksX4_laySamples_4 0 rfl rfl)
theorem dX4_laySamples_95 : decode cX4_laySamples 95 = .ok (.getfield 427, 3) := dk_180 1 171 (dk_at dksX4_laySamples_4 1 rfl rfl)
theorem dX4_laySamples_98 : decode cX4_laySamples 98 = .ok (.if_icmp .ge 52, 3) := dk_162 0 52 (dk_at dksX4_laySamples_4 4 rfl rfl)
theorem dX4_laySamples_101 : decode cX4_laySamples 101 = .ok (.aload_n 0, 1) := dk_42 (dk_at dksX4_laySamples_4 7 rfl rfl)
theorem dX4_laySamples_102 : decode cX4_laySamples 102 = .ok (.getfield 129, 3) := dk_180 0 129 (dk_at dksX4_laySamples_4 8 rfl rfl)
theorem dX4_laySamples_105 : decode cX4_laySamples 105 = .ok (.bipush 7, 2) := dk_16 7 (dk_at dksX4_laySamples_4 11 rfl rfl)
theorem dX4_laySamples_107 : decode cX4_laySamples 107 = .ok (.iload_n 2, 1) := dk_28 (dk_at dksX4_laySamples_4 13 rfl rfl)
theorem dX4_laySamples_108 : decode cX4_laySamples 108 = .ok (.imul, 1) := dk_104 (dk_at dksX4_laySamples_4 14 rfl rfl)
theorem dX4_laySamples_109 : decode cX4_laySamples 109 = .ok (.iload 4, 2) := dk_21 4 (dk_at dksX4_laySamples_4 15 rfl rfl)
theorem dX4_laySamples_111 : decode cX4_laySamples 111 = .ok (.iadd, 1) := dk_96 (dk_at dksX4_laySamples_4 17 rfl rfl)
theorem dX4_laySamples_112 : decode cX4_laySamples 112 = .ok (.iload_n 3, 1) := dk_29 (dk_at dksX4_laySamples_4 18 rfl rfl)
theorem dX4_laySamples_113 : decode cX4_laySamples 113 = .ok (.aload_n 0, 1) := dk_42 (dk_at dksX4_laySamples_4 19 rfl rfl)
theorem dX4_laySamples_114 : decode cX4_laySamples 114 = .ok (.getfield 123, 3) := dk_180 0 123 (dk_at dksX4_laySamples_4 20 rfl rfl)
theorem dX4_laySamples_117 : decode cX4_laySamples 117 = .ok (.iload 4, 2) := dk_21 4 (dk_at dksX4_laySamples_5 0 rfl rfl)
theorem dX4_laySamples_119 : decode cX4_laySamples 119 = .ok (.iaload, 1) := dk_46 (dk_at dksX4_laySamples_5 2 rfl rfl)
theorem dX4_laySamples_120 : decode cX4_laySamples 120 = .ok (.iconst (-1), 1) := dk_2 (dk_at dksX4_laySamples_5 3 rfl rfl)
theorem dX4_laySamples_121 : decode cX4_laySamples 121 = .ok (.ixor, 1) := dk_130 (dk_at dksX4_laySamples_5 4 rfl rfl)
theorem dX4_laySamples_122 : decode cX4_laySamples 122 = .ok (.iand, 1) := dk_126 (dk_at dksX4_laySamples_5 5 rfl rfl)
theorem dX4_laySamples_123 : decode cX4_laySamples 123 = .ok (.invokestatic 352, 3) := dk_184 1 96 (dk_at dksX4_laySamples_5 6 rfl rfl)
theorem dX4_laySamples_126 : decode cX4_laySamples 126 = .ok (.iconst 2, 1) := dk_5 (dk_at dksX4_laySamples_5 9 rfl rfl)
theorem dX4_laySamples_127 : decode cX4_laySamples 127 = .ok (.aload_n 0, 1) := dk_42 (dk_at dksX4_laySamples_5 10 rfl rfl)
theorem dX4_laySamples_128 : decode cX4_laySamples 128 = .ok (.getfield 123, 3) := dk_180 0 123 (dk_at dksX4_laySamples_5 11 rfl rfl)
theorem dX4_laySamples_131 : decode cX4_laySamples 131 = .ok (.iload 4, 2) := dk_21 4 (dk_at dksX4_laySamples_5 14 rfl rfl)
theorem dX4_laySamples_133 : decode cX4_laySamples 133 = .ok (.iaload, 1) := dk_46 (dk_at dksX4_laySamples_5 16 rfl rfl)
theorem dX4_laySamples_134 : decode cX4_laySamples 134 = .ok (.iload_n 3, 1) := dk_29 (dk_at dksX4_laySamples_5 17 rfl rfl)
theorem dX4_laySamples_135 : decode cX4_laySamples 135 = .ok (.iconst (-1), 1) := dk_2 (dk_at dksX4_laySamples_5 18 rfl rfl)
theorem dX4_laySamples_136 : decode cX4_laySamples 136 = .ok (.ixor, 1) := dk_130 (dk_at dksX4_laySamples_5 19 rfl rfl)
theorem dX4_laySamples_137 : decode cX4_laySamples 137 = .ok (.iand, 1) := dk_126 (dk_at dksX4_laySamples_5 20 rfl rfl)
theorem dX4_laySamples_138 : decode cX4_laySamples 138 = .ok (.invokestatic 352, 3) := dk_184 1 96 (dk_at dksX4_laySamples_5 21 rfl rfl)
theorem dX4_laySamples_141 : decode cX4_laySamples 141 = .ok (.imul, 1) := dk_104 (dk_at dksX4_laySamples_6 0 rfl rfl)
theorem dX4_laySamples_142 : decode cX4_laySamples 142 = .ok (.iadd, 1) := dk_96 (dk_at dksX4_laySamples_6 1 rfl rfl)
theorem dX4_laySamples_143 : decode cX4_laySamples 143 = .ok (.iastore, 1) := dk_79 (dk_at dksX4_laySamples_6 2 rfl rfl)
theorem dX4_laySamples_144 : decode cX4_laySamples 144 = .ok (.iinc 4 1, 3) := dk_132 4 1 (dk_at dksX4_laySamples_6 3 rfl rfl)
theorem dX4_laySamples_147 : decode cX4_laySamples 147 = .ok (.goto (-55), 3) := dk_167 255 201 (dk_at dksX4_laySamples_6 6 rfl rfl)
theorem dX4_laySamples_150 : decode cX4_laySamples 150 = .ok (.iinc 2 1, 3) := dk_132 2 1 (dk_at dksX4_laySamples_6 9 rfl rfl)
theorem dX4_laySamples_153 : decode cX4_laySamples 153 = .ok (.goto (-83), 3) := dk_167 255 173 (dk_at dksX4_laySamples_6 12 rfl rfl)
theorem dX4_laySamples_156 : decode cX4_laySamples 156 = .ok (.return_, 1) := dk_177 (dk_at dksX4_laySamples_6 15 rfl rfl)
abbrev cX4_counts : ByteArray := prog_27_method_94_code
def yX4_counts : MethodName := ⟨RX4, "counts", "(III)Z"⟩
def dkwX4_counts_1 : List UInt8 := [27, 46, 155, 0, 13, 42, 180, 0, 120, 27, 46, 29, 164, 0, 7, 4, 167, 0, 4, 3, 172]
abbrev dktX4_counts_1 : List UInt8 := dkwX4_counts_1 ++ []
def dkwX4_counts_0 : List UInt8 := [42, 180, 0, 105, 27, 46, 28, 160, 0, 36, 42, 180, 0, 117, 27, 46, 29, 163, 0, 26, 42, 180, 0, 120]
abbrev dktX4_counts_0 : List UInt8 := dkwX4_counts_0 ++ dktX4_counts_1
theorem dksX4_counts_0 : cX4_counts.data.toList.drop 0 = dktX4_counts_0 := by decide +kernel
theorem dksX4_counts_1 : cX4_counts.data.toList.drop 24 = dktX4_counts_1 := dk_seg dksX4_counts_0 24 rfl rfl
theorem dX4_counts_0 : decode cX4_counts 0 = .ok (.aload_n 0, 1) := dk_42 (dk_at dksX4_counts_0 0 rfl rfl)
theorem dX4_counts_1 : decode cX4_counts 1 = .ok (.getfield 105, 3) := dk_180 0 105 (dk_at dksX4_counts_0 1 rfl rfl)
theorem dX4_counts_4 : decode cX4_counts 4 = .ok (.iload_n 1, 1) := dk_27 (dk_at dksX4_counts_0 4 rfl rfl)
theorem dX4_counts_5 : decode cX4_counts 5 = .ok (.iaload, 1) := dk_46 (dk_at dksX4_counts_0 5 rfl rfl)
theorem dX4_counts_6 : decode cX4_counts 6 = .ok (.iload_n 2, 1) := dk_28 (dk_at dksX4_counts_0 6 rfl rfl)
theorem dX4_counts_7 : decode cX4_counts 7 = .ok (.if_icmp .ne 36, 3) := dk_160 0 36 (dk_at dksX4_counts_0 7 rfl rfl)
theorem dX4_counts_10 : decode cX4_counts 10 = .ok (.aload_n 0, 1) := dk_42 (dk_at dksX4_counts_0 10 rfl rfl)
theorem dX4_counts_11 : decode cX4_counts 11 = .ok (.getfield 117, 3) := dk_180 0 117 (dk_at dksX4_counts_0 11 rfl rfl)
theorem dX4_counts_14 : decode cX4_counts 14 = .ok (.iload_n 1, 1) := dk_27 (dk_at dksX4_counts_0 14 rfl rfl)
theorem dX4_counts_15 : decode cX4_counts 15 = .ok (.iaload, 1) := dk_46 (dk_at dksX4_counts_0 15 rfl rfl)
theorem dX4_counts_16 : decode cX4_counts 16 = .ok (.iload_n 3, 1) := dk_29 (dk_at dksX4_counts_0 16 rfl rfl)
theorem dX4_counts_17 : decode cX4_counts 17 = .ok (.if_icmp .gt 26, 3) := dk_163 0 26 (dk_at dksX4_counts_0 17 rfl rfl)
theorem dX4_counts_20 : decode cX4_counts 20 = .ok (.aload_n 0, 1) := dk_42 (dk_at dksX4_counts_0 20 rfl rfl)
theorem dX4_counts_21 : decode cX4_counts 21 = .ok (.getfield 120, 3) := dk_180 0 120 (dk_at dksX4_counts_0 21 rfl rfl)
theorem dX4_counts_24 : decode cX4_counts 24 = .ok (.iload_n 1, 1) := dk_27 (dk_at dksX4_counts_1 0 rfl rfl)
theorem dX4_counts_25 : decode cX4_counts 25 = .ok (.iaload, 1) := dk_46 (dk_at dksX4_counts_1 1 rfl rfl)
theorem dX4_counts_26 : decode cX4_counts 26 = .ok (.ifCond .lt 13, 3) := dk_155 0 13 (dk_at dksX4_counts_1 2 rfl rfl)
theorem dX4_counts_29 : decode cX4_counts 29 = .ok (.aload_n 0, 1) := dk_42 (dk_at dksX4_counts_1 5 rfl rfl)
theorem dX4_counts_30 : decode cX4_counts 30 = .ok (.getfield 120, 3) := dk_180 0 120 (dk_at dksX4_counts_1 6 rfl rfl)
theorem dX4_counts_33 : decode cX4_counts 33 = .ok (.iload_n 1, 1) := dk_27 (dk_at dksX4_counts_1 9 rfl rfl)
theorem dX4_counts_34 : decode cX4_counts 34 = .ok (.iaload, 1) := dk_46 (dk_at dksX4_counts_1 10 rfl rfl)
theorem dX4_counts_35 : decode cX4_counts 35 = .ok (.iload_n 3, 1) := dk_29 (dk_at dksX4_counts_1 11 rfl rfl)
theorem dX4_counts_36 : decode cX4_counts 36 = .ok (.if_icmp .le 7, 3) := dk_164 0 7 (dk_at dksX4_counts_1 12 rfl rfl)
theorem dX4_counts_39 : decode cX4_counts 39 = .ok (.iconst 1, 1) := dk_4 (dk_at dksX4_counts_1 15 rfl rfl)
theorem dX4_counts_40 : decode cX4_counts 40 = .ok (.goto 4, 3) := dk_167 0 4 (dk_at dksX4_counts_1 16 rfl rfl)
theorem dX4_counts_43 : decode cX4_counts 43 = .ok (.iconst 0, 1) := dk_3 (dk_at dksX4_counts_1 19 rfl rfl)
theorem dX4_counts_44 : decode cX4_counts 44 = .ok (.ireturn, 1) := dk_172 (dk_at dksX4_counts_1 20 rfl rfl)
abbrev cX4_changesOf : ByteArray := prog_27_method_96_code
def yX4_changesOf : MethodName := ⟨RX4, "changesOf", "(II)I"⟩
def dkwX4_changesOf_7 : List UInt8 := [2, 172, 132, 5, 1, 167, 255, 199, 21, 4, 172]
abbrev dktX4_changesOf_7 : List UInt8 := dkwX4_changesOf_7 ++ []
def dkwX4_changesOf_6 : List UInt8 := [159, 0, 18, 42, 180, 0, 126, 21, 6, 46, 54, 6, 132, 7, 1, 167, 255, 229, 21, 6, 28, 159, 0, 5]
abbrev dktX4_changesOf_6 : List UInt8 := dkwX4_changesOf_6 ++ dktX4_changesOf_7
def dkwX4_changesOf_5 : List UInt8 := [162, 0, 54, 21, 5, 54, 6, 3, 54, 7, 21, 7, 42, 180, 1, 171, 162, 0, 24, 21, 6, 28]
abbrev dktX4_changesOf_5 : List UInt8 := dkwX4_changesOf_5 ++ dktX4_changesOf_6
def dkwX4_changesOf_4 : List UInt8 := [21, 5, 96, 46, 96, 54, 4, 132, 5, 255, 167, 255, 166, 3, 54, 5, 21, 5, 42, 180, 1, 171]
abbrev dktX4_changesOf_4 : List UInt8 := dkwX4_changesOf_4 ++ dktX4_changesOf_5
def dkwX4_changesOf_3 : List UInt8 := [167, 0, 7, 21, 6, 4, 96, 79, 21, 4, 42, 180, 0, 129, 16, 7, 42, 180, 0, 126, 21, 5, 46, 104]
abbrev dktX4_changesOf_3 : List UInt8 := dkwX4_changesOf_3 ++ dktX4_changesOf_4
def dkwX4_changesOf_2 : List UInt8 := [180, 1, 171, 4, 100, 108, 62, 42, 180, 0, 126, 21, 5, 21, 6, 21, 5, 162, 0, 8, 21, 6]
abbrev dktX4_changesOf_2 : List UInt8 := dkwX4_changesOf_2 ++ dktX4_changesOf_3
def dkwX4_changesOf_1 : List UInt8 := [2, 79, 21, 5, 28, 160, 0, 6, 167, 0, 68, 29, 42, 180, 1, 171, 4, 100, 112, 54, 6, 29, 42]
abbrev dktX4_changesOf_1 : List UInt8 := dkwX4_changesOf_1 ++ dktX4_changesOf_2
def dkwX4_changesOf_0 : List UInt8 := [27, 62, 3, 54, 4, 42, 180, 1, 171, 4, 100, 54, 5, 21, 5, 155, 0, 91, 42, 180, 0, 126, 21, 5]
abbrev dktX4_changesOf_0 : List UInt8 := dkwX4_changesOf_0 ++ dktX4_changesOf_1
theorem dksX4_changesOf_0 : cX4_changesOf.data.toList.drop 0 = dktX4_changesOf_0 := by decide +kernel
theorem dksX4_changesOf_1 : cX4_changesOf.data.toList.drop 24 = dktX4_changesOf_1 := dk_seg dksX4_changesOf_0 24 rfl rfl
theorem dksX4_changesOf_2 : cX4_changesOf.data.toList.drop 47 = dktX4_changesOf_2 := dk_seg dksX4_changesOf_1 23 rfl rfl
theorem dksX4_changesOf_3 : cX4_changesOf.data.toList.drop 69 = dktX4_changesOf_3 := dk_seg dksX4_changesOf_2 22 rfl rfl
theorem dksX4_changesOf_4 : cX4_changesOf.data.toList.drop 93 = dktX4_changesOf_4 := dk_seg dksX4_changesOf_3 24 rfl rfl
theorem dksX4_changesOf_5 : cX4_changesOf.data.toList.drop 115 = dktX4_changesOf_5 := dk_seg dksX4_changesOf_4 22 rfl rfl
theorem dksX4_changesOf_6 : cX4_changesOf.data.toList.drop 137 = dktX4_changesOf_6 := dk_seg dksX4_changesOf_5 22 rfl rfl
theorem dksX4_changesOf_7 : cX4_changesOf.data.toList.drop 161 = dktX4_changesOf_7 := dk_seg dksX4_changesOf_6 24 rfl rfl
theorem dX4_changesOf_0 : decode cX4_changesOf 0 = .ok (.iload_n 1, 1) := dk_27 (dk_at dksX4_changesOf_0 0 rfl rfl)
theorem dX4_changesOf_1 : decode cX4_changesOf 1 = .ok (.istore_n 3, 1) := dk_62 (dk_at dksX4_changesOf_0 1 rfl rfl)
theorem dX4_changesOf_2 : decode cX4_changesOf 2 = .ok (.iconst 0, 1) := dk_3 (dk_at dksX4_changesOf_0 2 rfl rfl)
theorem dX4_changesOf_3 : decode cX4_changesOf 3 = .ok (.istore 4, 2) := dk_54 4 (dk_at dksX4_changesOf_0 3 rfl rfl)
theorem dX4_changesOf_5 : decode cX4_changesOf 5 = .ok (.aload_n 0, 1) := dk_42 (dk_at dksX4_changesOf_0 5 rfl rfl)
theorem dX4_changesOf_6 : decode cX4_changesOf 6 = .ok (.getfield 427, 3) := dk_180 1 171 (dk_at dksX4_changesOf_0 6 rfl rfl)
theorem dX4_changesOf_9 : decode cX4_changesOf 9 = .ok (.iconst 1, 1) := dk_4 (dk_at dksX4_changesOf_0 9 rfl rfl)
theorem dX4_changesOf_10 : decode cX4_changesOf 10 = .ok (.isub, 1) := dk_100 (dk_at dksX4_changesOf_0 10 rfl rfl)
theorem dX4_changesOf_11 : decode cX4_changesOf 11 = .ok (.istore 5, 2) := dk_54 5 (dk_at dksX4_changesOf_0 11 rfl rfl)
theorem dX4_changesOf_13 : decode cX4_changesOf 13 = .ok (.iload 5, 2) := dk_21 5 (dk_at dksX4_changesOf_0 13 rfl rfl)
theorem dX4_changesOf_15 : decode cX4_changesOf 15 = .ok (.ifCond .lt 91, 3) := dk_155 0 91 (dk_at dksX4_changesOf_0 15 rfl rfl)
theorem dX4_changesOf_18 : decode cX4_changesOf 18 = .ok (.aload_n 0, 1) := dk_42 (dk_at dksX4_changesOf_0 18 rfl rfl)
theorem dX4_changesOf_19 : decode cX4_changesOf 19 = .ok (.getfield 126, 3) := dk_180 0 126 (dk_at dksX4_changesOf_0 19 rfl rfl)
theorem dX4_changesOf_22 : decode cX4_changesOf 22 = .ok (.iload 5, 2) := dk_21 5 (dk_at dksX4_changesOf_0 22 rfl rfl)
theorem dX4_changesOf_24 : decode cX4_changesOf 24 = .ok (.iconst (-1), 1) := dk_2 (dk_at dksX4_changesOf_1 0 rfl rfl)
theorem dX4_changesOf_25 : decode cX4_changesOf 25 = .ok (.iastore, 1) := dk_79 (dk_at dksX4_changesOf_1 1 rfl rfl)
theorem dX4_changesOf_26 : decode cX4_changesOf 26 = .ok (.iload 5, 2) := dk_21 5 (dk_at dksX4_changesOf_1 2 rfl rfl)
theorem dX4_changesOf_28 : decode cX4_changesOf 28 = .ok (.iload_n 2, 1) := dk_28 (dk_at dksX4_changesOf_1 4 rfl rfl)
theorem dX4_changesOf_29 : decode cX4_changesOf 29 = .ok (.if_icmp .ne 6, 3) := dk_160 0 6 (dk_at dksX4_changesOf_1 5 rfl rfl)
theorem dX4_changesOf_32 : decode cX4_changesOf 32 = .ok (.goto 68, 3) := dk_167 0 68 (dk_at dksX4_changesOf_1 8 rfl rfl)
theorem dX4_changesOf_35 : decode cX4_changesOf 35 = .ok (.iload_n 3, 1) := dk_29 (dk_at dksX4_changesOf_1 11 rfl rfl)
theorem dX4_changesOf_36 : decode cX4_changesOf 36 = .ok (.aload_n 0, 1) := dk_42 (dk_at dksX4_changesOf_1 12 rfl rfl)
theorem dX4_changesOf_37 : decode cX4_changesOf 37 = .ok (.getfield 427, 3) := dk_180 1 171 (dk_at dksX4_changesOf_1 13 rfl rfl)
theorem dX4_changesOf_40 : decode cX4_changesOf 40 = .ok (.iconst 1, 1) := dk_4 (dk_at dksX4_changesOf_1 16 rfl rfl)
theorem dX4_changesOf_41 : decode cX4_changesOf 41 = .ok (.isub, 1) := dk_100 (dk_at dksX4_changesOf_1 17 rfl rfl)
theorem dX4_changesOf_42 : decode cX4_changesOf 42 = .ok (.irem, 1) := dk_112 (dk_at dksX4_changesOf_1 18 rfl rfl)
theorem dX4_changesOf_43 : decode cX4_changesOf 43 = .ok (.istore 6, 2) := dk_54 6 (dk_at dksX4_changesOf_1 19 rfl rfl)
theorem dX4_changesOf_45 : decode cX4_changesOf 45 = .ok (.iload_n 3, 1) := dk_29 (dk_at dksX4_changesOf_1 21 rfl rfl)
theorem dX4_changesOf_46 : decode cX4_changesOf 46 = .ok (.aload_n 0, 1) := dk_42 (dk_at dksX4_changesOf_1 22 rfl rfl)
theorem dX4_changesOf_47 : decode cX4_changesOf 47 = .ok (.getfield 427, 3) := dk_180 1 171 (dk_at dksX4_changesOf_2 0 rfl rfl)
theorem dX4_changesOf_50 : decode cX4_changesOf 50 = .ok (.iconst 1, 1) := dk_4 (dk_at dksX4_changesOf_2 3 rfl rfl)
theorem dX4_changesOf_51 : decode cX4_changesOf 51 = .ok (.isub, 1) := dk_100 (dk_at dksX4_changesOf_2 4 rfl rfl)
theorem dX4_changesOf_52 : decode cX4_changesOf 52 = .ok (.idiv, 1) := dk_108 (dk_at dksX4_changesOf_2 5 rfl rfl)
theorem dX4_changesOf_53 : decode cX4_changesOf 53 = .ok (.istore_n 3, 1) := dk_62 (dk_at dksX4_changesOf_2 6 rfl rfl)
theorem dX4_changesOf_54 : decode cX4_changesOf 54 = .ok (.aload_n 0, 1) := dk_42 (dk_at dksX4_changesOf_2 7 rfl rfl)
theorem dX4_changesOf_55 : decode cX4_changesOf 55 = .ok (.getfield 126, 3) := dk_180 0 126 (dk_at dksX4_changesOf_2 8 rfl rfl)
theorem dX4_changesOf_58 : decode cX4_changesOf 58 = .ok (.iload 5, 2) := dk_21 5 (dk_at dksX4_changesOf_2 11 rfl rfl)
theorem dX4_changesOf_60 : decode cX4_changesOf 60 = .ok (.iload 6, 2) := dk_21 6 (dk_at dksX4_changesOf_2 13 rfl rfl)
theorem dX4_changesOf_62 : decode cX4_changesOf 62 = .ok (.iload 5, 2) := dk_21 5 (dk_at dksX4_changesOf_2 15 rfl rfl)
theorem dX4_changesOf_64 : decode cX4_changesOf 64 = .ok (.if_icmp .ge 8, 3) := dk_162 0 8 (dk_at dksX4_changesOf_2 17 rfl rfl)
theorem dX4_changesOf_67 : decode cX4_changesOf 67 = .ok (.iload 6, 2) := dk_21 6 (dk_at dksX4_changesOf_2 20 rfl rfl)
theorem dX4_changesOf_69 : decode cX4_changesOf 69 = .ok (.goto 7, 3) := dk_167 0 7 (dk_at dksX4_changesOf_3 0 rfl rfl)
theorem dX4_changesOf_72 : decode cX4_changesOf 72 = .ok (.iload 6, 2) := dk_21 6 (dk_at dksX4_changesOf_3 3 rfl rfl)
theorem dX4_changesOf_74 : decode cX4_changesOf 74 = .ok (.iconst 1, 1) := dk_4 (dk_at dksX4_changesOf_3 5 rfl rfl)
theorem dX4_changesOf_75 : decode cX4_changesOf 75 = .ok (.iadd, 1) := dk_96 (dk_at dksX4_changesOf_3 6 rfl rfl)
theorem dX4_changesOf_76 : decode cX4_changesOf 76 = .ok (.iastore, 1) := dk_79 (dk_at dksX4_changesOf_3 7 rfl rfl)
theorem dX4_changesOf_77 : decode cX4_changesOf 77 = .ok (.iload 4, 2) := dk_21 4 (dk_at dksX4_changesOf_3 8 rfl rfl)
theorem dX4_changesOf_79 : decode cX4_changesOf 79 = .ok (.aload_n 0, 1) := dk_42 (dk_at dksX4_changesOf_3 10 rfl rfl)
theorem dX4_changesOf_80 : decode cX4_changesOf 80 = .ok (.getfield 129, 3) := dk_180 0 129 (dk_at dksX4_changesOf_3 11 rfl rfl)
theorem dX4_changesOf_83 : decode cX4_changesOf 83 = .ok (.bipush 7, 2) := dk_16 7 (dk_at dksX4_changesOf_3 14 rfl rfl)
theorem dX4_changesOf_85 : decode cX4_changesOf 85 = .ok (.aload_n 0, 1) := dk_42 (dk_at dksX4_changesOf_3 16 rfl rfl)
theorem dX4_changesOf_86 : decode cX4_changesOf 86 = .ok (.getfield 126, 3) := dk_180 0 126 (dk_at dksX4_changesOf_3 17 rfl rfl)
theorem dX4_changesOf_89 : decode cX4_changesOf 89 = .ok (.iload 5, 2) := dk_21 5 (dk_at dksX4_changesOf_3 20 rfl rfl)
theorem dX4_changesOf_91 : decode cX4_changesOf 91 = .ok (.iaload, 1) := dk_46 (dk_at dksX4_changesOf_3 22 rfl rfl)
theorem dX4_changesOf_92 : decode cX4_changesOf 92 = .ok (.imul, 1) := dk_104 (dk_at dksX4_changesOf_3 23 rfl rfl)
theorem dX4_changesOf_93 : decode cX4_changesOf 93 = .ok (.iload 5, 2) := dk_21 5 (dk_at dksX4_changesOf_4 0 rfl rfl)
theorem dX4_changesOf_95 : decode cX4_changesOf 95 = .ok (.iadd, 1) := dk_96 (dk_at dksX4_changesOf_4 2 rfl rfl)
theorem dX4_changesOf_96 : decode cX4_changesOf 96 = .ok (.iaload, 1) := dk_46 (dk_at dksX4_changesOf_4 3 rfl rfl)
theorem dX4_changesOf_97 : decode cX4_changesOf 97 = .ok (.iadd, 1) := dk_96 (dk_at dksX4_changesOf_4 4 rfl rfl)
theorem dX4_changesOf_98 : decode cX4_changesOf 98 = .ok (.istore 4, 2) := dk_54 4 (dk_at dksX4_changesOf_4 5 rfl rfl)
theorem dX4_changesOf_100 : decode cX4_changesOf 100 = .ok (.iinc 5 (-1), 3) := dk_132 5 255 (dk_at dksX4_changesOf_4 7 rfl rfl)
theorem dX4_changesOf_103 : decode cX4_changesOf 103 = .ok (.goto (-90), 3) := dk_167 255 166 (dk_at dksX4_changesOf_4 10 rfl rfl)
theorem dX4_changesOf_106 : decode cX4_changesOf 106 = .ok (.iconst 0, 1) := dk_3 (dk_at dksX4_changesOf_4 13 rfl rfl)
theorem dX4_changesOf_107 : decode cX4_changesOf 107 = .ok (.istore 5, 2) := dk_54 5 (dk_at dksX4_changesOf_4 14 rfl rfl)
theorem dX4_changesOf_109 : decode cX4_changesOf 109 = .ok (.iload 5, 2) := dk_21 5 (dk_at dksX4_changesOf_4 16 rfl rfl)
theorem dX4_changesOf_111 : decode cX4_changesOf 111 = .ok (.aload_n 0, 1) := dk_42 (dk_at dksX4_changesOf_4 18 rfl rfl)
theorem dX4_changesOf_112 : decode cX4_changesOf 112 = .ok (.getfield 427, 3) := dk_180 1 171 (dk_at dksX4_changesOf_4 19 rfl rfl)
theorem dX4_changesOf_115 : decode cX4_changesOf 115 = .ok (.if_icmp .ge 54, 3) := dk_162 0 54 (dk_at dksX4_changesOf_5 0 rfl rfl)
theorem dX4_changesOf_118 : decode cX4_changesOf 118 = .ok (.iload 5, 2) := dk_21 5 (dk_at dksX4_changesOf_5 3 rfl rfl)
theorem dX4_changesOf_120 : decode cX4_changesOf 120 = .ok (.istore 6, 2) := dk_54 6 (dk_at dksX4_changesOf_5 5 rfl rfl)
theorem dX4_changesOf_122 : decode cX4_changesOf 122 = .ok (.iconst 0, 1) := dk_3 (dk_at dksX4_changesOf_5 7 rfl rfl)
theorem dX4_changesOf_123 : decode cX4_changesOf 123 = .ok (.istore 7, 2) := dk_54 7 (dk_at dksX4_changesOf_5 8 rfl rfl)
theorem dX4_changesOf_125 : decode cX4_changesOf 125 = .ok (.iload 7, 2) := dk_21 7 (dk_at dksX4_changesOf_5 10 rfl rfl)
theorem dX4_changesOf_127 : decode cX4_changesOf 127 = .ok (.aload_n 0, 1) := dk_42 (dk_at dksX4_changesOf_5 12 rfl rfl)
theorem dX4_changesOf_128 : decode cX4_changesOf 128 = .ok (.getfield 427, 3) := dk_180 1 171 (dk_at dksX4_changesOf_5 13 rfl rfl)
theorem dX4_changesOf_131 : decode cX4_changesOf 131 = .ok (.if_icmp .ge 24, 3) := dk_162 0 24 (dk_at dksX4_changesOf_5 16 rfl rfl)
theorem dX4_changesOf_134 : decode cX4_changesOf 134 = .ok (.iload 6, 2) := dk_21 6 (dk_at dksX4_changesOf_5 19 rfl rfl)
theorem dX4_changesOf_136 : decode cX4_changesOf 136 = .ok (.iload_n 2, 1) := dk_28 (dk_at dksX4_changesOf_5 21 rfl rfl)
theorem dX4_changesOf_137 : decode cX4_changesOf 137 = .ok (.if_icmp .eq 18, 3) := dk_159 0 18 (dk_at dksX4_changesOf_6 0 rfl rfl)
theorem dX4_changesOf_140 : decode cX4_changesOf 140 = .ok (.aload_n 0, 1) := dk_42 (dk_at dksX4_changesOf_6 3 rfl rfl)
theorem dX4_changesOf_141 : decode cX4_changesOf 141 = .ok (.getfield 126, 3) := dk_180 0 126 (dk_at dksX4_changesOf_6 4 rfl rfl)
theorem dX4_changesOf_144 : decode cX4_changesOf 144 = .ok (.iload 6, 2) := dk_21 6 (dk_at dksX4_changesOf_6 7 rfl rfl)
theorem dX4_changesOf_146 : decode cX4_changesOf 146 = .ok (.iaload, 1) := dk_46 (dk_at dksX4_changesOf_6 9 rfl rfl)
theorem dX4_changesOf_147 : decode cX4_changesOf 147 = .ok (.istore 6, 2) := dk_54 6 (dk_at dksX4_changesOf_6 10 rfl rfl)
theorem dX4_changesOf_149 : decode cX4_changesOf 149 = .ok (.iinc 7 1, 3) := dk_132 7 1 (dk_at dksX4_changesOf_6 12 rfl rfl)
theorem dX4_changesOf_152 : decode cX4_changesOf 152 = .ok (.goto (-27), 3) := dk_167 255 229 (dk_at dksX4_changesOf_6 15 rfl rfl)
theorem dX4_changesOf_155 : decode cX4_changesOf 155 = .ok (.iload 6, 2) := dk_21 6 (dk_at dksX4_changesOf_6 18 rfl rfl)
theorem dX4_changesOf_157 : decode cX4_changesOf 157 = .ok (.iload_n 2, 1) := dk_28 (dk_at dksX4_changesOf_6 20 rfl rfl)
theorem dX4_changesOf_158 : decode cX4_changesOf 158 = .ok (.if_icmp .eq 5, 3) := dk_159 0 5 (dk_at dksX4_changesOf_6 21 rfl rfl)
theorem dX4_changesOf_161 : decode cX4_changesOf 161 = .ok (.iconst (-1), 1) := dk_2 (dk_at dksX4_changesOf_7 0 rfl rfl)
theorem dX4_changesOf_162 : decode cX4_changesOf 162 = .ok (.ireturn, 1) := dk_172 (dk_at dksX4_changesOf_7 1 rfl rfl)
theorem dX4_changesOf_163 : decode cX4_changesOf 163 = .ok (.iinc 5 1, 3) := dk_132 5 1 (dk_at dksX4_changesOf_7 2 rfl rfl)
theorem dX4_changesOf_166 : decode cX4_changesOf 166 = .ok (.goto (-57), 3) := dk_167 255 199 (dk_at dksX4_changesOf_7 5 rfl rfl)
theorem dX4_changesOf_169 : decode cX4_changesOf 169 = .ok (.iload 4, 2) := dk_21 4 (dk_at dksX4_changesOf_7 8 rfl rfl)
theorem dX4_changesOf_171 : decode cX4_changesOf 171 = .ok (.ireturn, 1) := dk_172 (dk_at dksX4_changesOf_7 10 rfl rfl)
abbrev cX4_centre : ByteArray := prog_27_method_98_code
def yX4_centre : MethodName := ⟨RX4, "centre", "(II)I"⟩
def dkwX4_centre_5 : List UInt8 := [167, 0, 5, 21, 4, 172]
abbrev dktX4_centre_5 : List UInt8 := dkwX4_centre_5 ++ []
def dkwX4_centre_4 : List UInt8 := [161, 0, 6, 167, 0, 10, 21, 5, 62, 21, 6, 54, 4, 132, 5, 1, 167, 255, 177, 27, 154, 0, 7, 29]
abbrev dktX4_centre_4 : List UInt8 := dkwX4_centre_4 ++ dktX4_centre_5
def dkwX4_centre_3 : List UInt8 := [104, 21, 7, 96, 46, 96, 54, 6, 132, 7, 1, 167, 255, 219, 29, 155, 0, 13, 21, 6, 21, 4]
abbrev dktX4_centre_3 : List UInt8 := dkwX4_centre_3 ++ dktX4_centre_4
def dkwX4_centre_2 : List UInt8 := [42, 180, 1, 171, 162, 0, 34, 21, 7, 21, 5, 159, 0, 21, 21, 6, 42, 180, 0, 129, 16, 7, 21, 5]
abbrev dktX4_centre_2 : List UInt8 := dkwX4_centre_2 ++ dktX4_centre_3
def dkwX4_centre_1 : List UInt8 := [62, 3, 54, 4, 3, 54, 5, 21, 5, 42, 180, 1, 171, 162, 0, 76, 3, 54, 6, 3, 54, 7, 21, 7]
abbrev dktX4_centre_1 : List UInt8 := dkwX4_centre_1 ++ dktX4_centre_2
def dkwX4_centre_0 : List UInt8 := [42, 28, 182, 1, 177, 42, 180, 1, 171, 153, 0, 12, 27, 3, 4, 184, 1, 89, 154, 0, 5, 2, 172, 2]
abbrev dktX4_centre_0 : List UInt8 := dkwX4_centre_0 ++ dktX4_centre_1
theorem dksX4_centre_0 : cX4_centre.data.toList.drop 0 = dktX4_centre_0 := by decide +kernel
theorem dksX4_centre_1 : cX4_centre.data.toList.drop 24 = dktX4_centre_1 := dk_seg dksX4_centre_0 24 rfl rfl
theorem dksX4_centre_2 : cX4_centre.data.toList.drop 48 = dktX4_centre_2 := dk_seg dksX4_centre_1 24 rfl rfl
theorem dksX4_centre_3 : cX4_centre.data.toList.drop 72 = dktX4_centre_3 := dk_seg dksX4_centre_2 24 rfl rfl
theorem dksX4_centre_4 : cX4_centre.data.toList.drop 94 = dktX4_centre_4 := dk_seg dksX4_centre_3 22 rfl rfl
theorem dksX4_centre_5 : cX4_centre.data.toList.drop 118 = dktX4_centre_5 := dk_seg dksX4_centre_4 24 rfl rfl
theorem dX4_centre_0 : decode cX4_centre 0 = .ok (.aload_n 0, 1) := dk_42 (dk_at dksX4_centre_0 0 rfl rfl)
theorem dX4_centre_1 : decode cX4_centre 1 = .ok (.iload_n 2, 1) := dk_28 (dk_at dksX4_centre_0 1 rfl rfl)
theorem dX4_centre_2 : decode cX4_centre 2 = .ok (.invokevirtual 433, 3) := dk_182 1 177 (dk_at dksX4_centre_0 2 rfl rfl)
theorem dX4_centre_5 : decode cX4_centre 5 = .ok (.aload_n 0, 1) := dk_42 (dk_at dksX4_centre_0 5 rfl rfl)
theorem dX4_centre_6 : decode cX4_centre 6 = .ok (.getfield 427, 3) := dk_180 1 171 (dk_at dksX4_centre_0 6 rfl rfl)
theorem dX4_centre_9 : decode cX4_centre 9 = .ok (.ifCond .eq 12, 3) := dk_153 0 12 (dk_at dksX4_centre_0 9 rfl rfl)
theorem dX4_centre_12 : decode cX4_centre 12 = .ok (.iload_n 1, 1) := dk_27 (dk_at dksX4_centre_0 12 rfl rfl)
theorem dX4_centre_13 : decode cX4_centre 13 = .ok (.iconst 0, 1) := dk_3 (dk_at dksX4_centre_0 13 rfl rfl)
theorem dX4_centre_14 : decode cX4_centre 14 = .ok (.iconst 1, 1) := dk_4 (dk_at dksX4_centre_0 14 rfl rfl)
theorem dX4_centre_15 : decode cX4_centre 15 = .ok (.invokestatic 345, 3) := dk_184 1 89 (dk_at dksX4_centre_0 15 rfl rfl)
theorem dX4_centre_18 : decode cX4_centre 18 = .ok (.ifCond .ne 5, 3) := dk_154 0 5 (dk_at dksX4_centre_0 18 rfl rfl)
theorem dX4_centre_21 : decode cX4_centre 21 = .ok (.iconst (-1), 1) := dk_2 (dk_at dksX4_centre_0 21 rfl rfl)
theorem dX4_centre_22 : decode cX4_centre 22 = .ok (.ireturn, 1) := dk_172 (dk_at dksX4_centre_0 22 rfl rfl)
theorem dX4_centre_23 : decode cX4_centre 23 = .ok (.iconst (-1), 1) := dk_2 (dk_at dksX4_centre_0 23 rfl rfl)
theorem dX4_centre_24 : decode cX4_centre 24 = .ok (.istore_n 3, 1) := dk_62 (dk_at dksX4_centre_1 0 rfl rfl)
theorem dX4_centre_25 : decode cX4_centre 25 = .ok (.iconst 0, 1) := dk_3 (dk_at dksX4_centre_1 1 rfl rfl)
theorem dX4_centre_26 : decode cX4_centre 26 = .ok (.istore 4, 2) := dk_54 4 (dk_at dksX4_centre_1 2 rfl rfl)
theorem dX4_centre_28 : decode cX4_centre 28 = .ok (.iconst 0, 1) := dk_3 (dk_at dksX4_centre_1 4 rfl rfl)
theorem dX4_centre_29 : decode cX4_centre 29 = .ok (.istore 5, 2) := dk_54 5 (dk_at dksX4_centre_1 5 rfl rfl)
theorem dX4_centre_31 : decode cX4_centre 31 = .ok (.iload 5, 2) := dk_21 5 (dk_at dksX4_centre_1 7 rfl rfl)
theorem dX4_centre_33 : decode cX4_centre 33 = .ok (.aload_n 0, 1) := dk_42 (dk_at dksX4_centre_1 9 rfl rfl)
theorem dX4_centre_34 : decode cX4_centre 34 = .ok (.getfield 427, 3) := dk_180 1 171 (dk_at dksX4_centre_1 10 rfl rfl)
theorem dX4_centre_37 : decode cX4_centre 37 = .ok (.if_icmp .ge 76, 3) := dk_162 0 76 (dk_at dksX4_centre_1 13 rfl rfl)
theorem dX4_centre_40 : decode cX4_centre 40 = .ok (.iconst 0, 1) := dk_3 (dk_at dksX4_centre_1 16 rfl rfl)
theorem dX4_centre_41 : decode cX4_centre 41 = .ok (.istore 6, 2) := dk_54 6 (dk_at dksX4_centre_1 17 rfl rfl)
theorem dX4_centre_43 : decode cX4_centre 43 = .ok (.iconst 0, 1) := dk_3 (dk_at dksX4_centre_1 19 rfl rfl)
theorem dX4_centre_44 : decode cX4_centre 44 = .ok (.istore 7, 2) := dk_54 7 (dk_at dksX4_centre_1 20 rfl rfl)
theorem dX4_centre_46 : decode cX4_centre 46 = .ok (.iload 7, 2) := dk_21 7 (dk_at dksX4_centre_1 22 rfl rfl)
theorem dX4_centre_48 : decode cX4_centre 48 = .ok (.aload_n 0, 1) := dk_42 (dk_at dksX4_centre_2 0 rfl rfl)
theorem dX4_centre_49 : decode cX4_centre 49 = .ok (.getfield 427, 3) := dk_180 1 171 (dk_at dksX4_centre_2 1 rfl rfl)
theorem dX4_centre_52 : decode cX4_centre 52 = .ok (.if_icmp .ge 34, 3) := dk_162 0 34 (dk_at dksX4_centre_2 4 rfl rfl)
theorem dX4_centre_55 : decode cX4_centre 55 = .ok (.iload 7, 2) := dk_21 7 (dk_at dksX4_centre_2 7 rfl rfl)
theorem dX4_centre_57 : decode cX4_centre 57 = .ok (.iload 5, 2) := dk_21 5 (dk_at dksX4_centre_2 9 rfl rfl)
theorem dX4_centre_59 : decode cX4_centre 59 = .ok (.if_icmp .eq 21, 3) := dk_159 0 21 (dk_at dksX4_centre_2 11 rfl rfl)
theorem dX4_centre_62 : decode cX4_centre 62 = .ok (.iload 6, 2) := dk_21 6 (dk_at dksX4_centre_2 14 rfl rfl)
theorem dX4_centre_64 : decode cX4_centre 64 = .ok (.aload_n 0, 1) := dk_42 (dk_at dksX4_centre_2 16 rfl rfl)
theorem dX4_centre_65 : decode cX4_centre 65 = .ok (.getfield 129, 3) := dk_180 0 129 (dk_at dksX4_centre_2 17 rfl rfl)
theorem dX4_centre_68 : decode cX4_centre 68 = .ok (.bipush 7, 2) := dk_16 7 (dk_at dksX4_centre_2 20 rfl rfl)
theorem dX4_centre_70 : decode cX4_centre 70 = .ok (.iload 5, 2) := dk_21 5 (dk_at dksX4_centre_2 22 rfl rfl)
theorem dX4_centre_72 : decode cX4_centre 72 = .ok (.imul, 1) := dk_104 (dk_at dksX4_centre_3 0 rfl rfl)
theorem dX4_centre_73 : decode cX4_centre 73 = .ok (.iload 7, 2) := dk_21 7 (dk_at dksX4_centre_3 1 rfl rfl)
theorem dX4_centre_75 : decode cX4_centre 75 = .ok (.iadd, 1) := dk_96 (dk_at dksX4_centre_3 3 rfl rfl)
theorem dX4_centre_76 : decode cX4_centre 76 = .ok (.iaload, 1) := dk_46 (dk_at dksX4_centre_3 4 rfl rfl)
theorem dX4_centre_77 : decode cX4_centre 77 = .ok (.iadd, 1) := dk_96 (dk_at dksX4_centre_3 5 rfl rfl)
theorem dX4_centre_78 : decode cX4_centre 78 = .ok (.istore 6, 2) := dk_54 6 (dk_at dksX4_centre_3 6 rfl rfl)
theorem dX4_centre_80 : decode cX4_centre 80 = .ok (.iinc 7 1, 3) := dk_132 7 1 (dk_at dksX4_centre_3 8 rfl rfl)
theorem dX4_centre_83 : decode cX4_centre 83 = .ok (.goto (-37), 3) := dk_167 255 219 (dk_at dksX4_centre_3 11 rfl rfl)
theorem dX4_centre_86 : decode cX4_centre 86 = .ok (.iload_n 3, 1) := dk_29 (dk_at dksX4_centre_3 14 rfl rfl)
theorem dX4_centre_87 : decode cX4_centre 87 = .ok (.ifCond .lt 13, 3) := dk_155 0 13 (dk_at dksX4_centre_3 15 rfl rfl)
theorem dX4_centre_90 : decode cX4_centre 90 = .ok (.iload 6, 2) := dk_21 6 (dk_at dksX4_centre_3 18 rfl rfl)
theorem dX4_centre_92 : decode cX4_centre 92 = .ok (.iload 4, 2) := dk_21 4 (dk_at dksX4_centre_3 20 rfl rfl)
theorem dX4_centre_94 : decode cX4_centre 94 = .ok (.if_icmp .lt 6, 3) := dk_161 0 6 (dk_at dksX4_centre_4 0 rfl rfl)
theorem dX4_centre_97 : decode cX4_centre 97 = .ok (.goto 10, 3) := dk_167 0 10 (dk_at dksX4_centre_4 3 rfl rfl)
theorem dX4_centre_100 : decode cX4_centre 100 = .ok (.iload 5, 2) := dk_21 5 (dk_at dksX4_centre_4 6 rfl rfl)
theorem dX4_centre_102 : decode cX4_centre 102 = .ok (.istore_n 3, 1) := dk_62 (dk_at dksX4_centre_4 8 rfl rfl)
theorem dX4_centre_103 : decode cX4_centre 103 = .ok (.iload 6, 2) := dk_21 6 (dk_at dksX4_centre_4 9 rfl rfl)
theorem dX4_centre_105 : decode cX4_centre 105 = .ok (.istore 4, 2) := dk_54 4 (dk_at dksX4_centre_4 11 rfl rfl)
theorem dX4_centre_107 : decode cX4_centre 107 = .ok (.iinc 5 1, 3) := dk_132 5 1 (dk_at dksX4_centre_4 13 rfl rfl)
theorem dX4_centre_110 : decode cX4_centre 110 = .ok (.goto (-79), 3) := dk_167 255 177 (dk_at dksX4_centre_4 16 rfl rfl)
theorem dX4_centre_113 : decode cX4_centre 113 = .ok (.iload_n 1, 1) := dk_27 (dk_at dksX4_centre_4 19 rfl rfl)
theorem dX4_centre_114 : decode cX4_centre 114 = .ok (.ifCond .ne 7, 3) := dk_154 0 7 (dk_at dksX4_centre_4 20 rfl rfl)
theorem dX4_centre_117 : decode cX4_centre 117 = .ok (.iload_n 3, 1) := dk_29 (dk_at dksX4_centre_4 23 rfl rfl)
theorem dX4_centre_118 : decode cX4_centre 118 = .ok (.goto 5, 3) := dk_167 0 5 (dk_at dksX4_centre_5 0 rfl rfl)
theorem dX4_centre_121 : decode cX4_centre 121 = .ok (.iload 4, 2) := dk_21 4 (dk_at dksX4_centre_5 3 rfl rfl)
theorem dX4_centre_123 : decode cX4_centre 123 = .ok (.ireturn, 1) := dk_172 (dk_at dksX4_centre_5 5 rfl rfl)
abbrev cX4_clans : ByteArray := prog_27_method_100_code
def yX4_clans : MethodName := ⟨RX4, "clans", "(III)I"⟩
def dkwX4_clans_5 : List UInt8 := [132, 6, 1, 167, 255, 175, 28, 154, 0, 8, 21, 4, 167, 0, 5, 21, 5, 172]
abbrev dktX4_clans_5 : List UInt8 := dkwX4_clans_5 ++ []
def dkwX4_clans_4 : List UInt8 := [21, 7, 158, 0, 7, 4, 167, 0, 4, 3, 96, 54, 4, 21, 7, 21, 5, 164, 0, 7, 21, 7, 54, 5]
abbrev dktX4_clans_4 : List UInt8 := dkwX4_clans_4 ++ dktX4_clans_5
def dkwX4_clans_3 : List UInt8 := [21, 8, 46, 21, 6, 160, 0, 7, 4, 167, 0, 4, 3, 96, 54, 7, 132, 8, 1, 167, 255, 222, 21, 4]
abbrev dktX4_clans_3 : List UInt8 := dkwX4_clans_3 ++ dktX4_clans_4
def dkwX4_clans_2 : List UInt8 := [162, 0, 78, 3, 54, 7, 3, 54, 8, 21, 8, 42, 180, 1, 171, 162, 0, 31, 21, 7, 42, 180, 0, 132]
abbrev dktX4_clans_2 : List UInt8 := dkwX4_clans_2 ++ dktX4_clans_3
def dkwX4_clans_1 : List UInt8 := [182, 1, 177, 42, 27, 182, 1, 183, 3, 54, 4, 3, 54, 5, 3, 54, 6, 21, 6, 42, 180, 1, 171]
abbrev dktX4_clans_1 : List UInt8 := dkwX4_clans_1 ++ dktX4_clans_2
def dkwX4_clans_0 : List UInt8 := [27, 3, 16, 24, 184, 1, 89, 153, 0, 12, 28, 3, 4, 184, 1, 89, 154, 0, 5, 2, 172, 42, 29]
abbrev dktX4_clans_0 : List UInt8 := dkwX4_clans_0 ++ dktX4_clans_1
theorem dksX4_clans_0 : cX4_clans.data.toList.drop 0 = dktX4_clans_0 := by decide +kernel
theorem dksX4_clans_1 : cX4_clans.data.toList.drop 23 = dktX4_clans_1 := dk_seg dksX4_clans_0 23 rfl rfl
theorem dksX4_clans_2 : cX4_clans.data.toList.drop 46 = dktX4_clans_2 := dk_seg dksX4_clans_1 23 rfl rfl
theorem dksX4_clans_3 : cX4_clans.data.toList.drop 70 = dktX4_clans_3 := dk_seg dksX4_clans_2 24 rfl rfl
theorem dksX4_clans_4 : cX4_clans.data.toList.drop 94 = dktX4_clans_4 := dk_seg dksX4_clans_3 24 rfl rfl
theorem dksX4_clans_5 : cX4_clans.data.toList.drop 118 = dktX4_clans_5 := dk_seg dksX4_clans_4 24 rfl rfl
theorem dX4_clans_0 : decode cX4_clans 0 = .ok (.iload_n 1, 1) := dk_27 (dk_at dksX4_clans_0 0 rfl rfl)
theorem dX4_clans_1 : decode cX4_clans 1 = .ok (.iconst 0, 1) := dk_3 (dk_at dksX4_clans_0 1 rfl rfl)
theorem dX4_clans_2 : decode cX4_clans 2 = .ok (.bipush 24, 2) := dk_16 24 (dk_at dksX4_clans_0 2 rfl rfl)
theorem dX4_clans_4 : decode cX4_clans 4 = .ok (.invokestatic 345, 3) := dk_184 1 89 (dk_at dksX4_clans_0 4 rfl rfl)
theorem dX4_clans_7 : decode cX4_clans 7 = .ok (.ifCond .eq 12, 3) := dk_153 0 12 (dk_at dksX4_clans_0 7 rfl rfl)
theorem dX4_clans_10 : decode cX4_clans 10 = .ok (.iload_n 2, 1) := dk_28 (dk_at dksX4_clans_0 10 rfl rfl)
theorem dX4_clans_11 : decode cX4_clans 11 = .ok (.iconst 0, 1) := dk_3 (dk_at dksX4_clans_0 11 rfl rfl)
theorem dX4_clans_12 : decode cX4_clans 12 = .ok (.iconst 1, 1) := dk_4 (dk_at dksX4_clans_0 12 rfl rfl)
theorem dX4_clans_13 : decode cX4_clans 13 = .ok (.invokestatic 345, 3) := dk_184 1 89 (dk_at dksX4_clans_0 13 rfl rfl)
theorem dX4_clans_16 : decode cX4_clans 16 = .ok (.ifCond .ne 5, 3) := dk_154 0 5 (dk_at dksX4_clans_0 16 rfl rfl)
theorem dX4_clans_19 : decode cX4_clans 19 = .ok (.iconst (-1), 1) := dk_2 (dk_at dksX4_clans_0 19 rfl rfl)
theorem dX4_clans_20 : decode cX4_clans 20 = .ok (.ireturn, 1) := dk_172 (dk_at dksX4_clans_0 20 rfl rfl)
theorem dX4_clans_21 : decode cX4_clans 21 = .ok (.aload_n 0, 1) := dk_42 (dk_at dksX4_clans_0 21 rfl rfl)
theorem dX4_clans_22 : decode cX4_clans 22 = .ok (.iload_n 3, 1) := dk_29 (dk_at dksX4_clans_0 22 rfl rfl)
theorem dX4_clans_23 : decode cX4_clans 23 = .ok (.invokevirtual 433, 3) := dk_182 1 177 (dk_at dksX4_clans_1 0 rfl rfl)
theorem dX4_clans_26 : decode cX4_clans 26 = .ok (.aload_n 0, 1) := dk_42 (dk_at dksX4_clans_1 3 rfl rfl)
theorem dX4_clans_27 : decode cX4_clans 27 = .ok (.iload_n 1, 1) := dk_27 (dk_at dksX4_clans_1 4 rfl rfl)
theorem dX4_clans_28 : decode cX4_clans 28 = .ok (.invokevirtual 439, 3) := dk_182 1 183 (dk_at dksX4_clans_1 5 rfl rfl)
theorem dX4_clans_31 : decode cX4_clans 31 = .ok (.iconst 0, 1) := dk_3 (dk_at dksX4_clans_1 8 rfl rfl)
theorem dX4_clans_32 : decode cX4_clans 32 = .ok (.istore 4, 2) := dk_54 4 (dk_at dksX4_clans_1 9 rfl rfl)
theorem dX4_clans_34 : decode cX4_clans 34 = .ok (.iconst 0, 1) := dk_3 (dk_at dksX4_clans_1 11 rfl rfl)
theorem dX4_clans_35 : decode cX4_clans 35 = .ok (.istore 5, 2) := dk_54 5 (dk_at dksX4_clans_1 12 rfl rfl)
theorem dX4_clans_37 : decode cX4_clans 37 = .ok (.iconst 0, 1) := dk_3 (dk_at dksX4_clans_1 14 rfl rfl)
theorem dX4_clans_38 : decode cX4_clans 38 = .ok (.istore 6, 2) := dk_54 6 (dk_at dksX4_clans_1 15 rfl rfl)
theorem dX4_clans_40 : decode cX4_clans 40 = .ok (.iload 6, 2) := dk_21 6 (dk_at dksX4_clans_1 17 rfl rfl)
theorem dX4_clans_42 : decode cX4_clans 42 = .ok (.aload_n 0, 1) := dk_42 (dk_at dksX4_clans_1 19 rfl rfl)
theorem dX4_clans_43 : decode cX4_clans 43 = .ok (.getfield 427, 3) := dk_180 1 171 (dk_at dksX4_clans_1 20 rfl rfl)
theorem dX4_clans_46 : decode cX4_clans 46 = .ok (.if_icmp .ge 78, 3) := dk_162 0 78 (dk_at dksX4_clans_2 0 rfl rfl)
theorem dX4_clans_49 : decode cX4_clans 49 = .ok (.iconst 0, 1) := dk_3 (dk_at dksX4_clans_2 3 rfl rfl)
theorem dX4_clans_50 : decode cX4_clans 50 = .ok (.istore 7, 2) := dk_54 7 (dk_at dksX4_clans_2 4 rfl rfl)
theorem dX4_clans_52 : decode cX4_clans 52 = .ok (.iconst 0, 1) := dk_3 (dk_at dksX4_clans_2 6 rfl rfl)
theorem dX4_clans_53 : decode cX4_clans 53 = .ok (.istore 8, 2) := dk_54 8 (dk_at dksX4_clans_2 7 rfl rfl)
theorem dX4_clans_55 : decode cX4_clans 55 = .ok (.iload 8, 2) := dk_21 8 (dk_at dksX4_clans_2 9 rfl rfl)
theorem dX4_clans_57 : decode cX4_clans 57 = .ok (.aload_n 0, 1) := dk_42 (dk_at dksX4_clans_2 11 rfl rfl)
theorem dX4_clans_58 : decode cX4_clans 58 = .ok (.getfield 427, 3) := dk_180 1 171 (dk_at dksX4_clans_2 12 rfl rfl)
theorem dX4_clans_61 : decode cX4_clans 61 = .ok (.if_icmp .ge 31, 3) := dk_162 0 31 (dk_at dksX4_clans_2 15 rfl rfl)
theorem dX4_clans_64 : decode cX4_clans 64 = .ok (.iload 7, 2) := dk_21 7 (dk_at dksX4_clans_2 18 rfl rfl)
theorem dX4_clans_66 : decode cX4_clans 66 = .ok (.aload_n 0, 1) := dk_42 (dk_at dksX4_clans_2 20 rfl rfl)
theorem dX4_clans_67 : decode cX4_clans 67 = .ok (.getfield 132, 3) := dk_180 0 132 (dk_at dksX4_clans_2 21 rfl rfl)
theorem dX4_clans_70 : decode cX4_clans 70 = .ok (.iload 8, 2) := dk_21 8 (dk_at dksX4_clans_3 0 rfl rfl)
theorem dX4_clans_72 : decode cX4_clans 72 = .ok (.iaload, 1) := dk_46 (dk_at dksX4_clans_3 2 rfl rfl)
theorem dX4_clans_73 : decode cX4_clans 73 = .ok (.iload 6, 2) := dk_21 6 (dk_at dksX4_clans_3 3 rfl rfl)
theorem dX4_clans_75 : decode cX4_clans 75 = .ok (.if_icmp .ne 7, 3) := dk_160 0 7 (dk_at dksX4_clans_3 5 rfl rfl)
theorem dX4_clans_78 : decode cX4_clans 78 = .ok (.iconst 1, 1) := dk_4 (dk_at dksX4_clans_3 8 rfl rfl)
theorem dX4_clans_79 : decode cX4_clans 79 = .ok (.goto 4, 3) := dk_167 0 4 (dk_at dksX4_clans_3 9 rfl rfl)
theorem dX4_clans_82 : decode cX4_clans 82 = .ok (.iconst 0, 1) := dk_3 (dk_at dksX4_clans_3 12 rfl rfl)
theorem dX4_clans_83 : decode cX4_clans 83 = .ok (.iadd, 1) := dk_96 (dk_at dksX4_clans_3 13 rfl rfl)
theorem dX4_clans_84 : decode cX4_clans 84 = .ok (.istore 7, 2) := dk_54 7 (dk_at dksX4_clans_3 14 rfl rfl)
theorem dX4_clans_86 : decode cX4_clans 86 = .ok (.iinc 8 1, 3) := dk_132 8 1 (dk_at dksX4_clans_3 16 rfl rfl)
theorem dX4_clans_89 : decode cX4_clans 89 = .ok (.goto (-34), 3) := dk_167 255 222 (dk_at dksX4_clans_3 19 rfl rfl)
theorem dX4_clans_92 : decode cX4_clans 92 = .ok (.iload 4, 2) := dk_21 4 (dk_at dksX4_clans_3 22 rfl rfl)
theorem dX4_clans_94 : decode cX4_clans 94 = .ok (.iload 7, 2) := dk_21 7 (dk_at dksX4_clans_4 0 rfl rfl)
theorem dX4_clans_96 : decode cX4_clans 96 = .ok (.ifCond .le 7, 3) := dk_158 0 7 (dk_at dksX4_clans_4 2 rfl rfl)
theorem dX4_clans_99 : decode cX4_clans 99 = .ok (.iconst 1, 1) := dk_4 (dk_at dksX4_clans_4 5 rfl rfl)
theorem dX4_clans_100 : decode cX4_clans 100 = .ok (.goto 4, 3) := dk_167 0 4 (dk_at dksX4_clans_4 6 rfl rfl)
theorem dX4_clans_103 : decode cX4_clans 103 = .ok (.iconst 0, 1) := dk_3 (dk_at dksX4_clans_4 9 rfl rfl)
theorem dX4_clans_104 : decode cX4_clans 104 = .ok (.iadd, 1) := dk_96 (dk_at dksX4_clans_4 10 rfl rfl)
theorem dX4_clans_105 : decode cX4_clans 105 = .ok (.istore 4, 2) := dk_54 4 (dk_at dksX4_clans_4 11 rfl rfl)
theorem dX4_clans_107 : decode cX4_clans 107 = .ok (.iload 7, 2) := dk_21 7 (dk_at dksX4_clans_4 13 rfl rfl)
theorem dX4_clans_109 : decode cX4_clans 109 = .ok (.iload 5, 2) := dk_21 5 (dk_at dksX4_clans_4 15 rfl rfl)
theorem dX4_clans_111 : decode cX4_clans 111 = .ok (.if_icmp .le 7, 3) := dk_164 0 7 (dk_at dksX4_clans_4 17 rfl rfl)
theorem dX4_clans_114 : decode cX4_clans 114 = .ok (.iload 7, 2) := dk_21 7 (dk_at dksX4_clans_4 20 rfl rfl)
theorem dX4_clans_116 : decode cX4_clans 116 = .ok (.istore 5, 2) := dk_54 5 (dk_at dksX4_clans_4 22 rfl rfl)
theorem dX4_clans_118 : decode cX4_clans 118 = .ok (.iinc 6 1, 3) := dk_132 6 1 (dk_at dksX4_clans_5 0 rfl rfl)
theorem dX4_clans_121 : decode cX4_clans 121 = .ok (.goto (-81), 3) := dk_167 255 175 (dk_at dksX4_clans_5 3 rfl rfl)
theorem dX4_clans_124 : decode cX4_clans 124 = .ok (.iload_n 2, 1) := dk_28 (dk_at dksX4_clans_5 6 rfl rfl)
theorem dX4_clans_125 : decode cX4_clans 125 = .ok (.ifCond .ne 8, 3) := dk_154 0 8 (dk_at dksX4_clans_5 7 rfl rfl)
theorem dX4_clans_128 : decode cX4_clans 128 = .ok (.iload 4, 2) := dk_21 4 (dk_at dksX4_clans_5 10 rfl rfl)
theorem dX4_clans_130 : decode cX4_clans 130 = .ok (.goto 5, 3) := dk_167 0 5 (dk_at dksX4_clans_5 12 rfl rfl)
theorem dX4_clans_133 : decode cX4_clans 133 = .ok (.iload 5, 2) := dk_21 5 (dk_at dksX4_clans_5 15 rfl rfl)
theorem dX4_clans_135 : decode cX4_clans 135 = .ok (.ireturn, 1) := dk_172 (dk_at dksX4_clans_5 17 rfl rfl)
abbrev cX4_layClans : ByteArray := prog_27_method_99_code
def yX4_layClans : MethodName := ⟨RX4, "layClans", "(I)V"⟩
def dkwX4_layClans_8 : List UInt8 := [167, 255, 96, 177]
abbrev dktX4_layClans_8 : List UInt8 := dkwX4_layClans_8 ++ []
def dkwX4_layClans_7 : List UInt8 := [180, 0, 132, 21, 6, 21, 4, 79, 132, 6, 1, 167, 255, 223, 132, 3, 1, 167, 255, 112, 132, 2, 1]
abbrev dktX4_layClans_7 : List UInt8 := dkwX4_layClans_7 ++ dktX4_layClans_8
def dkwX4_layClans_6 : List UInt8 := [21, 6, 42, 180, 1, 171, 162, 0, 30, 42, 180, 0, 132, 21, 6, 46, 21, 5, 160, 0, 12, 42]
abbrev dktX4_layClans_6 : List UInt8 := dkwX4_layClans_6 ++ dktX4_layClans_7
def dkwX4_layClans_5 : List UInt8 := [162, 0, 12, 42, 180, 0, 132, 29, 46, 167, 0, 9, 42, 180, 0, 132, 28, 46, 54, 5, 3, 54, 6]
abbrev dktX4_layClans_5 : List UInt8 := dkwX4_layClans_5 ++ dktX4_layClans_6
def dkwX4_layClans_4 : List UInt8 := [167, 0, 9, 42, 180, 0, 132, 29, 46, 54, 4, 42, 180, 0, 132, 28, 46, 42, 180, 0, 132, 29, 46]
abbrev dktX4_layClans_4 : List UInt8 := dkwX4_layClans_4 ++ dktX4_layClans_5
def dkwX4_layClans_3 : List UInt8 := [167, 0, 106, 42, 180, 0, 132, 28, 46, 42, 180, 0, 132, 29, 46, 162, 0, 12, 42, 180, 0, 132, 28, 46]
abbrev dktX4_layClans_3 : List UInt8 := dkwX4_layClans_3 ++ dktX4_layClans_4
def dkwX4_layClans_2 : List UInt8 := [29, 96, 46, 27, 164, 0, 21, 42, 180, 0, 129, 16, 7, 29, 104, 28, 96, 46, 27, 164, 0, 6]
abbrev dktX4_layClans_2 : List UInt8 := dkwX4_layClans_2 ++ dktX4_layClans_3
def dkwX4_layClans_1 : List UInt8 := [61, 28, 42, 180, 1, 171, 162, 0, 158, 3, 62, 29, 28, 162, 0, 145, 42, 180, 0, 129, 16, 7, 28, 104]
abbrev dktX4_layClans_1 : List UInt8 := dkwX4_layClans_1 ++ dktX4_layClans_2
def dkwX4_layClans_0 : List UInt8 := [3, 61, 28, 42, 180, 1, 171, 162, 0, 16, 42, 180, 0, 132, 28, 28, 79, 132, 2, 1, 167, 255, 238, 3]
abbrev dktX4_layClans_0 : List UInt8 := dkwX4_layClans_0 ++ dktX4_layClans_1
theorem dksX4_layClans_0 : cX4_layClans.data.toList.drop 0 = dktX4_layClans_0 := by decide +kernel
theorem dksX4_layClans_1 : cX4_layClans.data.toList.drop 24 = dktX4_layClans_1 := dk_seg dksX4_layClans_0 24 rfl rfl
theorem dksX4_layClans_2 : cX4_layClans.data.toList.drop 48 = dktX4_layClans_2 := dk_seg dksX4_layClans_1 24 rfl rfl
theorem dksX4_layClans_3 : cX4_layClans.data.toList.drop 70 = dktX4_layClans_3 := dk_seg dksX4_layClans_2 22 rfl rfl
theorem dksX4_layClans_4 : cX4_layClans.data.toList.drop 94 = dktX4_layClans_4 := dk_seg dksX4_layClans_3 24 rfl rfl
theorem dksX4_layClans_5 : cX4_layClans.data.toList.drop 117 = dktX4_layClans_5 := dk_seg dksX4_layClans_4 23 rfl rfl
theorem dksX4_layClans_6 : cX4_layClans.data.toList.drop 140 = dktX4_layClans_6 := dk_seg dksX4_layClans_5 23 rfl rfl
theorem dksX4_layClans_7 : cX4_layClans.data.toList.drop 162 = dktX4_layClans_7 := dk_seg dksX4_layClans_6 22 rfl rfl
theorem dksX4_layClans_8 : cX4_layClans.data.toList.drop 185 = dktX4_layClans_8 := dk_seg dksX4_layClans_7 23 rfl rfl
theorem dX4_layClans_0 : decode cX4_layClans 0 = .ok (.iconst 0, 1) := dk_3 (dk_at dksX4_layClans_0 0 rfl rfl)
theorem dX4_layClans_1 : decode cX4_layClans 1 = .ok (.istore_n 2, 1) := dk_61 (dk_at dksX4_layClans_0 1 rfl rfl)
theorem dX4_layClans_2 : decode cX4_layClans 2 = .ok (.iload_n 2, 1) := dk_28 (dk_at dksX4_layClans_0 2 rfl rfl)
theorem dX4_layClans_3 : decode cX4_layClans 3 = .ok (.aload_n 0, 1) := dk_42 (dk_at dksX4_layClans_0 3 rfl rfl)
theorem dX4_layClans_4 : decode cX4_layClans 4 = .ok (.getfield 427, 3) := dk_180 1 171 (dk_at dksX4_layClans_0 4 rfl rfl)
theorem dX4_layClans_7 : decode cX4_layClans 7 = .ok (.if_icmp .ge 16, 3) := dk_162 0 16 (dk_at dksX4_layClans_0 7 rfl rfl)
theorem dX4_layClans_10 : decode cX4_layClans 10 = .ok (.aload_n 0, 1) := dk_42 (dk_at dksX4_layClans_0 10 rfl rfl)
theorem dX4_layClans_11 : decode cX4_layClans 11 = .ok (.getfield 132, 3) := dk_180 0 132 (dk_at dksX4_layClans_0 11 rfl rfl)
theorem dX4_layClans_14 : decode cX4_layClans 14 = .ok (.iload_n 2, 1) := dk_28 (dk_at dksX4_layClans_0 14 rfl rfl)
theorem dX4_layClans_15 : decode cX4_layClans 15 = .ok (.iload_n 2, 1) := dk_28 (dk_at dksX4_layClans_0 15 rfl rfl)
theorem dX4_layClans_16 : decode cX4_layClans 16 = .ok (.iastore, 1) := dk_79 (dk_at dksX4_layClans_0 16 rfl rfl)
theorem dX4_layClans_17 : decode cX4_layClans 17 = .ok (.iinc 2 1, 3) := dk_132 2 1 (dk_at dksX4_layClans_0 17 rfl rfl)
theorem dX4_layClans_20 : decode cX4_layClans 20 = .ok (.goto (-18), 3) := dk_167 255 238 (dk_at dksX4_layClans_0 20 rfl rfl)
theorem dX4_layClans_23 : decode cX4_layClans 23 = .ok (.iconst 0, 1) := dk_3 (dk_at dksX4_layClans_0 23 rfl rfl)
theorem dX4_layClans_24 : decode cX4_layClans 24 = .ok (.istore_n 2, 1) := dk_61 (dk_at dksX4_layClans_1 0 rfl rfl)
theorem dX4_layClans_25 : decode cX4_layClans 25 = .ok (.iload_n 2, 1) := dk_28 (dk_at dksX4_layClans_1 1 rfl rfl)
theorem dX4_layClans_26 : decode cX4_layClans 26 = .ok (.aload_n 0, 1) := dk_42 (dk_at dksX4_layClans_1 2 rfl rfl)
theorem dX4_layClans_27 : decode cX4_layClans 27 = .ok (.getfield 427, 3) := dk_180 1 171 (dk_at dksX4_layClans_1 3 rfl rfl)
theorem dX4_layClans_30 : decode cX4_layClans 30 = .ok (.if_icmp .ge 158, 3) := dk_162 0 158 (dk_at dksX4_layClans_1 6 rfl rfl)
theorem dX4_layClans_33 : decode cX4_layClans 33 = .ok (.iconst 0, 1) := dk_3 (dk_at dksX4_layClans_1 9 rfl rfl)
theorem dX4_layClans_34 : decode cX4_layClans 34 = .ok (.istore_n 3, 1) := dk_62 (dk_at dksX4_layClans_1 10 rfl rfl)
theorem dX4_layClans_35 : decode cX4_layClans 35 = .ok (.iload_n 3, 1) := dk_29 (dk_at dksX4_layClans_1 11 rfl rfl)
theorem dX4_layClans_36 : decode cX4_layClans 36 = .ok (.iload_n 2, 1) := dk_28 (dk_at dksX4_layClans_1 12 rfl rfl)
theorem dX4_layClans_37 : decode cX4_layClans 37 = .ok (.if_icmp .ge 145, 3) := dk_162 0 145 (dk_at dksX4_layClans_1 13 rfl rfl)
theorem dX4_layClans_40 : decode cX4_layClans 40 = .ok (.aload_n 0, 1) := dk_42 (dk_at dksX4_layClans_1 16 rfl rfl)
theorem dX4_layClans_41 : decode cX4_layClans 41 = .ok (.getfield 129, 3) := dk_180 0 129 (dk_at dksX4_layClans_1 17 rfl rfl)
theorem dX4_layClans_44 : decode cX4_layClans 44 = .ok (.bipush 7, 2) := dk_16 7 (dk_at dksX4_layClans_1 20 rfl rfl)
theorem dX4_layClans_46 : decode cX4_layClans 46 = .ok (.iload_n 2, 1) := dk_28 (dk_at dksX4_layClans_1 22 rfl rfl)
theorem dX4_layClans_47 : decode cX4_layClans 47 = .ok (.imul, 1) := dk_104 (dk_at dksX4_layClans_1 23 rfl rfl)
theorem dX4_layClans_48 : decode cX4_layClans 48 = .ok (.iload_n 3, 1) := dk_29 (dk_at dksX4_layClans_2 0 rfl rfl)
theorem dX4_layClans_49 : decode cX4_layClans 49 = .ok (.iadd, 1) := dk_96 (dk_at dksX4_layClans_2 1 rfl rfl)
theorem dX4_layClans_50 : decode cX4_layClans 50 = .ok (.iaload, 1) := dk_46 (dk_at dksX4_layClans_2 2 rfl rfl)
theorem dX4_layClans_51 : decode cX4_layClans 51 = .ok (.iload_n 1, 1) := dk_27 (dk_at dksX4_layClans_2 3 rfl rfl)
theorem dX4_layClans_52 : decode cX4_layClans 52 = .ok (.if_icmp .le 21, 3) := dk_164 0 21 (dk_at dksX4_layClans_2 4 rfl rfl)
theorem dX4_layClans_55 : decode cX4_layClans 55 = .ok (.aload_n 0, 1) := dk_42 (dk_at dksX4_layClans_2 7 rfl rfl)
theorem dX4_layClans_56 : decode cX4_layClans 56 = .ok (.getfield 129, 3) := dk_180 0 129 (dk_at dksX4_layClans_2 8 rfl rfl)
theorem dX4_layClans_59 : decode cX4_layClans 59 = .ok (.bipush 7, 2) := dk_16 7 (dk_at dksX4_layClans_2 11 rfl rfl)
theorem dX4_layClans_61 : decode cX4_layClans 61 = .ok (.iload_n 3, 1) := dk_29 (dk_at dksX4_layClans_2 13 rfl rfl)
theorem dX4_layClans_62 : decode cX4_layClans 62 = .ok (.imul, 1) := dk_104 (dk_at dksX4_layClans_2 14 rfl rfl)
theorem dX4_layClans_63 : decode cX4_layClans 63 = .ok (.iload_n 2, 1) := dk_28 (dk_at dksX4_layClans_2 15 rfl rfl)
theorem dX4_layClans_64 : decode cX4_layClans 64 = .ok (.iadd, 1) := dk_96 (dk_at dksX4_layClans_2 16 rfl rfl)
theorem dX4_layClans_65 : decode cX4_layClans 65 = .ok (.iaload, 1) := dk_46 (dk_at dksX4_layClans_2 17 rfl rfl)
theorem dX4_layClans_66 : decode cX4_layClans 66 = .ok (.iload_n 1, 1) := dk_27 (dk_at dksX4_layClans_2 18 rfl rfl)
theorem dX4_layClans_67 : decode cX4_layClans 67 = .ok (.if_icmp .le 6, 3) := dk_164 0 6 (dk_at dksX4_layClans_2 19 rfl rfl)
theorem dX4_layClans_70 : decode cX4_layClans 70 = .ok (.goto 106, 3) := dk_167 0 106 (dk_at dksX4_layClans_3 0 rfl rfl)
theorem dX4_layClans_73 : decode cX4_layClans 73 = .ok (.aload_n 0, 1) := dk_42 (dk_at dksX4_layClans_3 3 rfl rfl)
theorem dX4_layClans_74 : decode cX4_layClans 74 = .ok (.getfield 132, 3) := dk_180 0 132 (dk_at dksX4_layClans_3 4 rfl rfl)
theorem dX4_layClans_77 : decode cX4_layClans 77 = .ok (.iload_n 2, 1) := dk_28 (dk_at dksX4_layClans_3 7 rfl rfl)
theorem dX4_layClans_78 : decode cX4_layClans 78 = .ok (.iaload, 1) := dk_46 (dk_at dksX4_layClans_3 8 rfl rfl)
theorem dX4_layClans_79 : decode cX4_layClans 79 = .ok (.aload_n 0, 1) := dk_42 (dk_at dksX4_layClans_3 9 rfl rfl)
theorem dX4_layClans_80 : decode cX4_layClans 80 = .ok (.getfield 132, 3) := dk_180 0 132 (dk_at dksX4_layClans_3 10 rfl rfl)
theorem dX4_layClans_83 : decode cX4_layClans 83 = .ok (.iload_n 3, 1) := dk_29 (dk_at dksX4_layClans_3 13 rfl rfl)
theorem dX4_layClans_84 : decode cX4_layClans 84 = .ok (.iaload, 1) := dk_46 (dk_at dksX4_layClans_3 14 rfl rfl)
theorem dX4_layClans_85 : decode cX4_layClans 85 = .ok (.if_icmp .ge 12, 3) := dk_162 0 12 (dk_at dksX4_layClans_3 15 rfl rfl)
theorem dX4_layClans_88 : decode cX4_layClans 88 = .ok (.aload_n 0, 1) := dk_42 (dk_at dksX4_layClans_3 18 rfl rfl)
theorem dX4_layClans_89 : decode cX4_layClans 89 = .ok (.getfield 132, 3) := dk_180 0 132 (dk_at dksX4_layClans_3 19 rfl rfl)
theorem dX4_layClans_92 : decode cX4_layClans 92 = .ok (.iload_n 2, 1) := dk_28 (dk_at dksX4_layClans_3 22 rfl rfl)
theorem dX4_layClans_93 : decode cX4_layClans 93 = .ok (.iaload, 1) := dk_46 (dk_at dksX4_layClans_3 23 rfl rfl)
theorem dX4_layClans_94 : decode cX4_layClans 94 = .ok (.goto 9, 3) := dk_167 0 9 (dk_at dksX4_layClans_4 0 rfl rfl)
theorem dX4_layClans_97 : decode cX4_layClans 97 = .ok (.aload_n 0, 1) := dk_42 (dk_at dksX4_layClans_4 3 rfl rfl)
theorem dX4_layClans_98 : decode cX4_layClans 98 = .ok (.getfield 132, 3) := dk_180 0 132 (dk_at dksX4_layClans_4 4 rfl rfl)
theorem dX4_layClans_101 : decode cX4_layClans 101 = .ok (.iload_n 3, 1) := dk_29 (dk_at dksX4_layClans_4 7 rfl rfl)
theorem dX4_layClans_102 : decode cX4_layClans 102 = .ok (.iaload, 1) := dk_46 (dk_at dksX4_layClans_4 8 rfl rfl)
theorem dX4_layClans_103 : decode cX4_layClans 103 = .ok (.istore 4, 2) := dk_54 4 (dk_at dksX4_layClans_4 9 rfl rfl)
theorem dX4_layClans_105 : decode cX4_layClans 105 = .ok (.aload_n 0, 1) := dk_42 (dk_at dksX4_layClans_4 11 rfl rfl)
theorem dX4_layClans_106 : decode cX4_layClans 106 = .ok (.getfield 132, 3) := dk_180 0 132 (dk_at dksX4_layClans_4 12 rfl rfl)
theorem dX4_layClans_109 : decode cX4_layClans 109 = .ok (.iload_n 2, 1) := dk_28 (dk_at dksX4_layClans_4 15 rfl rfl)
theorem dX4_layClans_110 : decode cX4_layClans 110 = .ok (.iaload, 1) := dk_46 (dk_at dksX4_layClans_4 16 rfl rfl)
theorem dX4_layClans_111 : decode cX4_layClans 111 = .ok (.aload_n 0, 1) := dk_42 (dk_at dksX4_layClans_4 17 rfl rfl)
theorem dX4_layClans_112 : decode cX4_layClans 112 = .ok (.getfield 132, 3) := dk_180 0 132 (dk_at dksX4_layClans_4 18 rfl rfl)
theorem dX4_layClans_115 : decode cX4_layClans 115 = .ok (.iload_n 3, 1) := dk_29 (dk_at dksX4_layClans_4 21 rfl rfl)
theorem dX4_layClans_116 : decode cX4_layClans 116 = .ok (.iaload, 1) := dk_46 (dk_at dksX4_layClans_4 22 rfl rfl)
theorem dX4_layClans_117 : decode cX4_layClans 117 = .ok (.if_icmp .ge 12, 3) := dk_162 0 12 (dk_at dksX4_layClans_5 0 rfl rfl)
theorem dX4_layClans_120 : decode cX4_layClans 120 = .ok (.aload_n 0, 1) := dk_42 (dk_at dksX4_layClans_5 3 rfl rfl)
theorem dX4_layClans_121 : decode cX4_layClans 121 = .ok (.getfield 132, 3) := dk_180 0 132 (dk_at dksX4_layClans_5 4 rfl rfl)
theorem dX4_layClans_124 : decode cX4_layClans 124 = .ok (.iload_n 3, 1) := dk_29 (dk_at dksX4_layClans_5 7 rfl rfl)
theorem dX4_layClans_125 : decode cX4_layClans 125 = .ok (.iaload, 1) := dk_46 (dk_at dksX4_layClans_5 8 rfl rfl)
theorem dX4_layClans_126 : decode cX4_layClans 126 = .ok (.goto 9, 3) := dk_167 0 9 (dk_at dksX4_layClans_5 9 rfl rfl)
theorem dX4_layClans_129 : decode cX4_layClans 129 = .ok (.aload_n 0, 1) := dk_42 (dk_at dksX4_layClans_5 12 rfl rfl)
theorem dX4_layClans_130 : decode cX4_layClans 130 = .ok (.getfield 132, 3) := dk_180 0 132 (dk_at dksX4_layClans_5 13 rfl rfl)
theorem dX4_layClans_133 : decode cX4_layClans 133 = .ok (.iload_n 2, 1) := dk_28 (dk_at dksX4_layClans_5 16 rfl rfl)
theorem dX4_layClans_134 : decode cX4_layClans 134 = .ok (.iaload, 1) := dk_46 (dk_at dksX4_layClans_5 17 rfl rfl)
theorem dX4_layClans_135 : decode cX4_layClans 135 = .ok (.istore 5, 2) := dk_54 5 (dk_at dksX4_layClans_5 18 rfl rfl)
theorem dX4_layClans_137 : decode cX4_layClans 137 = .ok (.iconst 0, 1) := dk_3 (dk_at dksX4_layClans_5 20 rfl rfl)
theorem dX4_layClans_138 : decode cX4_layClans 138 = .ok (.istore 6, 2) := dk_54 6 (dk_at dksX4_layClans_5 21 rfl rfl)
theorem dX4_layClans_140 : decode cX4_layClans 140 = .ok (.iload 6, 2) := dk_21 6 (dk_at dksX4_layClans_6 0 rfl rfl)
theorem dX4_layClans_142 : decode cX4_layClans 142 = .ok (.aload_n 0, 1) := dk_42 (dk_at dksX4_layClans_6 2 rfl rfl)
theorem dX4_layClans_143 : decode cX4_layClans 143 = .ok (.getfield 427, 3) := dk_180 1 171 (dk_at dksX4_layClans_6 3 rfl rfl)
theorem dX4_layClans_146 : decode cX4_layClans 146 = .ok (.if_icmp .ge 30, 3) := dk_162 0 30 (dk_at dksX4_layClans_6 6 rfl rfl)
theorem dX4_layClans_149 : decode cX4_layClans 149 = .ok (.aload_n 0, 1) := dk_42 (dk_at dksX4_layClans_6 9 rfl rfl)
theorem dX4_layClans_150 : decode cX4_layClans 150 = .ok (.getfield 132, 3) := dk_180 0 132 (dk_at dksX4_layClans_6 10 rfl rfl)
theorem dX4_layClans_153 : decode cX4_layClans 153 = .ok (.iload 6, 2) := dk_21 6 (dk_at dksX4_layClans_6 13 rfl rfl)
theorem dX4_layClans_155 : decode cX4_layClans 155 = .ok (.iaload, 1) := dk_46 (dk_at dksX4_layClans_6 15 rfl rfl)
theorem dX4_layClans_156 : decode cX4_layClans 156 = .ok (.iload 5, 2) := dk_21 5 (dk_at dksX4_layClans_6 16 rfl rfl)
theorem dX4_layClans_158 : decode cX4_layClans 158 = .ok (.if_icmp .ne 12, 3) := dk_160 0 12 (dk_at dksX4_layClans_6 18 rfl rfl)
theorem dX4_layClans_161 : decode cX4_layClans 161 = .ok (.aload_n 0, 1) := dk_42 (dk_at dksX4_layClans_6 21 rfl rfl)
theorem dX4_layClans_162 : decode cX4_layClans 162 = .ok (.getfield 132, 3) := dk_180 0 132 (dk_at dksX4_layClans_7 0 rfl rfl)
theorem dX4_layClans_165 : decode cX4_layClans 165 = .ok (.iload 6, 2) := dk_21 6 (dk_at dksX4_layClans_7 3 rfl rfl)
theorem dX4_layClans_167 : decode cX4_layClans 167 = .ok (.iload 4, 2) := dk_21 4 (dk_at dksX4_layClans_7 5 rfl rfl)
theorem dX4_layClans_169 : decode cX4_layClans 169 = .ok (.iastore, 1) := dk_79 (dk_at dksX4_layClans_7 7 rfl rfl)
theorem dX4_layClans_170 : decode cX4_layClans 170 = .ok (.iinc 6 1, 3) := dk_132 6 1 (dk_at dksX4_layClans_7 8 rfl rfl)
theorem dX4_layClans_173 : decode cX4_layClans 173 = .ok (.goto (-33), 3) := dk_167 255 223 (dk_at dksX4_layClans_7 11 rfl rfl)
theorem dX4_layClans_176 : decode cX4_layClans 176 = .ok (.iinc 3 1, 3) := dk_132 3 1 (dk_at dksX4_layClans_7 14 rfl rfl)
theorem dX4_layClans_179 : decode cX4_layClans 179 = .ok (.goto (-144), 3) := dk_167 255 112 (dk_at dksX4_layClans_7 17 rfl rfl)
theorem dX4_layClans_182 : decode cX4_layClans 182 = .ok (.iinc 2 1, 3) := dk_132 2 1 (dk_at dksX4_layClans_7 20 rfl rfl)
theorem dX4_layClans_185 : decode cX4_layClans 185 = .ok (.goto (-160), 3) := dk_167 255 96 (dk_at dksX4_layClans_8 0 rfl rfl)
theorem dX4_layClans_188 : decode cX4_layClans 188 = .ok (.return_, 1) := dk_177 (dk_at dksX4_layClans_8 3 rfl rfl)
abbrev cX4_origin : ByteArray := prog_27_method_101_code
def yX4_origin : MethodName := ⟨RX4, "origin", "(II)I"⟩
def dkwX4_origin_7 : List UInt8 := [167, 255, 113, 27, 154, 0, 7, 29, 167, 0, 5, 21, 4, 172]
abbrev dktX4_origin_7 : List UInt8 := dkwX4_origin_7 ++ []
def dkwX4_origin_6 : List UInt8 := [21, 7, 5, 21, 6, 104, 162, 0, 8, 21, 7, 167, 0, 7, 5, 21, 6, 104, 96, 54, 4, 132, 5, 1]
abbrev dktX4_origin_6 : List UInt8 := dkwX4_origin_6 ++ dktX4_origin_7
def dkwX4_origin_5 : List UInt8 := [132, 8, 1, 167, 255, 176, 21, 7, 5, 21, 6, 104, 162, 0, 10, 29, 4, 21, 5, 120, 128, 62, 21, 4]
abbrev dktX4_origin_5 : List UInt8 := dkwX4_origin_5 ++ dktX4_origin_6
def dkwX4_origin_4 : List UInt8 := [54, 9, 21, 9, 21, 5, 122, 4, 126, 4, 160, 0, 9, 132, 6, 1, 167, 0, 6, 132, 7, 1]
abbrev dktX4_origin_4 : List UInt8 := dkwX4_origin_4 ++ dktX4_origin_5
def dkwX4_origin_3 : List UInt8 := [160, 0, 17, 42, 42, 180, 0, 108, 21, 8, 46, 182, 1, 93, 167, 0, 10, 42, 180, 0, 108, 21, 8, 46]
abbrev dktX4_origin_3 : List UInt8 := dkwX4_origin_3 ++ dktX4_origin_4
def dkwX4_origin_2 : List UInt8 := [42, 21, 8, 3, 28, 182, 1, 174, 154, 0, 6, 167, 0, 57, 42, 180, 0, 111, 21, 8, 46, 4]
abbrev dktX4_origin_2 : List UInt8 := dkwX4_origin_2 ++ dktX4_origin_3
def dkwX4_origin_1 : List UInt8 := [182, 1, 86, 162, 0, 140, 3, 54, 6, 3, 54, 7, 3, 54, 8, 21, 8, 42, 180, 1, 121, 162, 0, 77]
abbrev dktX4_origin_1 : List UInt8 := dkwX4_origin_1 ++ dktX4_origin_2
def dkwX4_origin_0 : List UInt8 := [27, 3, 4, 184, 1, 89, 154, 0, 5, 2, 172, 3, 62, 3, 54, 4, 3, 54, 5, 21, 5, 42]
abbrev dktX4_origin_0 : List UInt8 := dkwX4_origin_0 ++ dktX4_origin_1
theorem dksX4_origin_0 : cX4_origin.data.toList.drop 0 = dktX4_origin_0 := by decide +kernel
theorem dksX4_origin_1 : cX4_origin.data.toList.drop 22 = dktX4_origin_1 := dk_seg dksX4_origin_0 22 rfl rfl
theorem dksX4_origin_2 : cX4_origin.data.toList.drop 46 = dktX4_origin_2 := dk_seg dksX4_origin_1 24 rfl rfl
theorem dksX4_origin_3 : cX4_origin.data.toList.drop 68 = dktX4_origin_3 := dk_seg dksX4_origin_2 22 rfl rfl
theorem dksX4_origin_4 : cX4_origin.data.toList.drop 92 = dktX4_origin_4 := dk_seg dksX4_origin_3 24 rfl rfl
theorem dksX4_origin_5 : cX4_origin.data.toList.drop 114 = dktX4_origin_5 := dk_seg dksX4_origin_4 22 rfl rfl
theorem dksX4_origin_6 : cX4_origin.data.toList.drop 138 = dktX4_origin_6 := dk_seg dksX4_origin_5 24 rfl rfl
theorem dksX4_origin_7 : cX4_origin.data.toList.drop 162 = dktX4_origin_7 := dk_seg dksX4_origin_6 24 rfl rfl
theorem dX4_origin_0 : decode cX4_origin 0 = .ok (.iload_n 1, 1) := dk_27 (dk_at dksX4_origin_0 0 rfl rfl)
theorem dX4_origin_1 : decode cX4_origin 1 = .ok (.iconst 0, 1) := dk_3 (dk_at dksX4_origin_0 1 rfl rfl)
theorem dX4_origin_2 : decode cX4_origin 2 = .ok (.iconst 1, 1) := dk_4 (dk_at dksX4_origin_0 2 rfl rfl)
theorem dX4_origin_3 : decode cX4_origin 3 = .ok (.invokestatic 345, 3) := dk_184 1 89 (dk_at dksX4_origin_0 3 rfl rfl)
theorem dX4_origin_6 : decode cX4_origin 6 = .ok (.ifCond .ne 5, 3) := dk_154 0 5 (dk_at dksX4_origin_0 6 rfl rfl)
theorem dX4_origin_9 : decode cX4_origin 9 = .ok (.iconst (-1), 1) := dk_2 (dk_at dksX4_origin_0 9 rfl rfl)
theorem dX4_origin_10 : decode cX4_origin 10 = .ok (.ireturn, 1) := dk_172 (dk_at dksX4_origin_0 10 rfl rfl)
theorem dX4_origin_11 : decode cX4_origin 11 = .ok (.iconst 0, 1) := dk_3 (dk_at dksX4_origin_0 11 rfl rfl)
theorem dX4_origin_12 : decode cX4_origin 12 = .ok (.istore_n 3, 1) := dk_62 (dk_at dksX4_origin_0 12 rfl rfl)
theorem dX4_origin_13 : decode cX4_origin 13 = .ok (.iconst 0, 1) := dk_3 (dk_at dksX4_origin_0 13 rfl rfl)
theorem dX4_origin_14 : decode cX4_origin 14 = .ok (.istore 4, 2) := dk_54 4 (dk_at dksX4_origin_0 14 rfl rfl)
theorem dX4_origin_16 : decode cX4_origin 16 = .ok (.iconst 0, 1) := dk_3 (dk_at dksX4_origin_0 16 rfl rfl)
theorem dX4_origin_17 : decode cX4_origin 17 = .ok (.istore 5, 2) := dk_54 5 (dk_at dksX4_origin_0 17 rfl rfl)
theorem dX4_origin_19 : decode cX4_origin 19 = .ok (.iload 5, 2) := dk_21 5 (dk_at dksX4_origin_0 19 rfl rfl)
theorem dX4_origin_21 : decode cX4_origin 21 = .ok (.aload_n 0, 1) := dk_42 (dk_at dksX4_origin_0 21 rfl rfl)
theorem dX4_origin_22 : decode cX4_origin 22 = .ok (.invokevirtual 342, 3) := dk_182 1 86 (dk_at dksX4_origin_1 0 rfl rfl)
theorem dX4_origin_25 : decode cX4_origin 25 = .ok (.if_icmp .ge 140, 3) := dk_162 0 140 (dk_at dksX4_origin_1 3 rfl rfl)
theorem dX4_origin_28 : decode cX4_origin 28 = .ok (.iconst 0, 1) := dk_3 (dk_at dksX4_origin_1 6 rfl rfl)
theorem dX4_origin_29 : decode cX4_origin 29 = .ok (.istore 6, 2) := dk_54 6 (dk_at dksX4_origin_1 7 rfl rfl)
theorem dX4_origin_31 : decode cX4_origin 31 = .ok (.iconst 0, 1) := dk_3 (dk_at dksX4_origin_1 9 rfl rfl)
theorem dX4_origin_32 : decode cX4_origin 32 = .ok (.istore 7, 2) := dk_54 7 (dk_at dksX4_origin_1 10 rfl rfl)
theorem dX4_origin_34 : decode cX4_origin 34 = .ok (.iconst 0, 1) := dk_3 (dk_at dksX4_origin_1 12 rfl rfl)
theorem dX4_origin_35 : decode cX4_origin 35 = .ok (.istore 8, 2) := dk_54 8 (dk_at dksX4_origin_1 13 rfl rfl)
theorem dX4_origin_37 : decode cX4_origin 37 = .ok (.iload 8, 2) := dk_21 8 (dk_at dksX4_origin_1 15 rfl rfl)
theorem dX4_origin_39 : decode cX4_origin 39 = .ok (.aload_n 0, 1) := dk_42 (dk_at dksX4_origin_1 17 rfl rfl)
theorem dX4_origin_40 : decode cX4_origin 40 = .ok (.getfield 377, 3) := dk_180 1 121 (dk_at dksX4_origin_1 18 rfl rfl)
theorem dX4_origin_43 : decode cX4_origin 43 = .ok (.if_icmp .ge 77, 3) := dk_162 0 77 (dk_at dksX4_origin_1 21 rfl rfl)
theorem dX4_origin_46 : decode cX4_origin 46 = .ok (.aload_n 0, 1) := dk_42 (dk_at dksX4_origin_2 0 rfl rfl)
theorem dX4_origin_47 : decode cX4_origin 47 = .ok (.iload 8, 2) := dk_21 8 (dk_at dksX4_origin_2 1 rfl rfl)
theorem dX4_origin_49 : decode cX4_origin 49 = .ok (.iconst 0, 1) := dk_3 (dk_at dksX4_origin_2 3 rfl rfl)
theorem dX4_origin_50 : decode cX4_origin 50 = .ok (.iload_n 2, 1) := dk_28 (dk_at dksX4_origin_2 4 rfl rfl)
theorem dX4_origin_51 : decode cX4_origin 51 = .ok (.invokevirtual 430, 3) := dk_182 1 174 (dk_at dksX4_origin_2 5 rfl rfl)
theorem dX4_origin_54 : decode cX4_origin 54 = .ok (.ifCond .ne 6, 3) := dk_154 0 6 (dk_at dksX4_origin_2 8 rfl rfl)
theorem dX4_origin_57 : decode cX4_origin 57 = .ok (.goto 57, 3) := dk_167 0 57 (dk_at dksX4_origin_2 11 rfl rfl)
theorem dX4_origin_60 : decode cX4_origin 60 = .ok (.aload_n 0, 1) := dk_42 (dk_at dksX4_origin_2 14 rfl rfl)
theorem dX4_origin_61 : decode cX4_origin 61 = .ok (.getfield 111, 3) := dk_180 0 111 (dk_at dksX4_origin_2 15 rfl rfl)
theorem dX4_origin_64 : decode cX4_origin 64 = .ok (.iload 8, 2) := dk_21 8 (dk_at dksX4_origin_2 18 rfl rfl)
theorem dX4_origin_66 : decode cX4_origin 66 = .ok (.iaload, 1) := dk_46 (dk_at dksX4_origin_2 20 rfl rfl)
theorem dX4_origin_67 : decode cX4_origin 67 = .ok (.iconst 1, 1) := dk_4 (dk_at dksX4_origin_2 21 rfl rfl)
theorem dX4_origin_68 : decode cX4_origin 68 = .ok (.if_icmp .ne 17, 3) := dk_160 0 17 (dk_at dksX4_origin_3 0 rfl rfl)
theorem dX4_origin_71 : decode cX4_origin 71 = .ok (.aload_n 0, 1) := dk_42 (dk_at dksX4_origin_3 3 rfl rfl)
theorem dX4_origin_72 : decode cX4_origin 72 = .ok (.aload_n 0, 1) := dk_42 (dk_at dksX4_origin_3 4 rfl rfl)
theorem dX4_origin_73 : decode cX4_origin 73 = .ok (.getfield 108, 3) := dk_180 0 108 (dk_at dksX4_origin_3 5 rfl rfl)
theorem dX4_origin_76 : decode cX4_origin 76 = .ok (.iload 8, 2) := dk_21 8 (dk_at dksX4_origin_3 8 rfl rfl)
theorem dX4_origin_78 : decode cX4_origin 78 = .ok (.iaload, 1) := dk_46 (dk_at dksX4_origin_3 10 rfl rfl)
theorem dX4_origin_79 : decode cX4_origin 79 = .ok (.invokevirtual 349, 3) := dk_182 1 93 (dk_at dksX4_origin_3 11 rfl rfl)
theorem dX4_origin_82 : decode cX4_origin 82 = .ok (.goto 10, 3) := dk_167 0 10 (dk_at dksX4_origin_3 14 rfl rfl)
theorem dX4_origin_85 : decode cX4_origin 85 = .ok (.aload_n 0, 1) := dk_42 (dk_at dksX4_origin_3 17 rfl rfl)
theorem dX4_origin_86 : decode cX4_origin 86 = .ok (.getfield 108, 3) := dk_180 0 108 (dk_at dksX4_origin_3 18 rfl rfl)
theorem dX4_origin_89 : decode cX4_origin 89 = .ok (.iload 8, 2) := dk_21 8 (dk_at dksX4_origin_3 21 rfl rfl)
theorem dX4_origin_91 : decode cX4_origin 91 = .ok (.iaload, 1) := dk_46 (dk_at dksX4_origin_3 23 rfl rfl)
theorem dX4_origin_92 : decode cX4_origin 92 = .ok (.istore 9, 2) := dk_54 9 (dk_at dksX4_origin_4 0 rfl rfl)
theorem dX4_origin_94 : decode cX4_origin 94 = .ok (.iload 9, 2) := dk_21 9 (dk_at dksX4_origin_4 2 rfl rfl)
theorem dX4_origin_96 : decode cX4_origin 96 = .ok (.iload 5, 2) := dk_21 5 (dk_at dksX4_origin_4 4 rfl rfl)
theorem dX4_origin_98 : decode cX4_origin 98 = .ok (.ishr, 1) := dk_122 (dk_at dksX4_origin_4 6 rfl rfl)
theorem dX4_origin_99 : decode cX4_origin 99 = .ok (.iconst 1, 1) := dk_4 (dk_at dksX4_origin_4 7 rfl rfl)
theorem dX4_origin_100 : decode cX4_origin 100 = .ok (.iand, 1) := dk_126 (dk_at dksX4_origin_4 8 rfl rfl)
theorem dX4_origin_101 : decode cX4_origin 101 = .ok (.iconst 1, 1) := dk_4 (dk_at dksX4_origin_4 9 rfl rfl)
theorem dX4_origin_102 : decode cX4_origin 102 = .ok (.if_icmp .ne 9, 3) := dk_160 0 9 (dk_at dksX4_origin_4 10 rfl rfl)
theorem dX4_origin_105 : decode cX4_origin 105 = .ok (.iinc 6 1, 3) := dk_132 6 1 (dk_at dksX4_origin_4 13 rfl rfl)
theorem dX4_origin_108 : decode cX4_origin 108 = .ok (.goto 6, 3) := dk_167 0 6 (dk_at dksX4_origin_4 16 rfl rfl)
theorem dX4_origin_111 : decode cX4_origin 111 = .ok (.iinc 7 1, 3) := dk_132 7 1 (dk_at dksX4_origin_4 19 rfl rfl)
theorem dX4_origin_114 : decode cX4_origin 114 = .ok (.iinc 8 1, 3) := dk_132 8 1 (dk_at dksX4_origin_5 0 rfl rfl)
theorem dX4_origin_117 : decode cX4_origin 117 = .ok (.goto (-80), 3) := dk_167 255 176 (dk_at dksX4_origin_5 3 rfl rfl)
theorem dX4_origin_120 : decode cX4_origin 120 = .ok (.iload 7, 2) := dk_21 7 (dk_at dksX4_origin_5 6 rfl rfl)
theorem dX4_origin_122 : decode cX4_origin 122 = .ok (.iconst 2, 1) := dk_5 (dk_at dksX4_origin_5 8 rfl rfl)
theorem dX4_origin_123 : decode cX4_origin 123 = .ok (.iload 6, 2) := dk_21 6 (dk_at dksX4_origin_5 9 rfl rfl)
theorem dX4_origin_125 : decode cX4_origin 125 = .ok (.imul, 1) := dk_104 (dk_at dksX4_origin_5 11 rfl rfl)
theorem dX4_origin_126 : decode cX4_origin 126 = .ok (.if_icmp .ge 10, 3) := dk_162 0 10 (dk_at dksX4_origin_5 12 rfl rfl)
theorem dX4_origin_129 : decode cX4_origin 129 = .ok (.iload_n 3, 1) := dk_29 (dk_at dksX4_origin_5 15 rfl rfl)
theorem dX4_origin_130 : decode cX4_origin 130 = .ok (.iconst 1, 1) := dk_4 (dk_at dksX4_origin_5 16 rfl rfl)
theorem dX4_origin_131 : decode cX4_origin 131 = .ok (.iload 5, 2) := dk_21 5 (dk_at dksX4_origin_5 17 rfl rfl)
theorem dX4_origin_133 : decode cX4_origin 133 = .ok (.ishl, 1) := dk_120 (dk_at dksX4_origin_5 19 rfl rfl)
theorem dX4_origin_134 : decode cX4_origin 134 = .ok (.ior, 1) := dk_128 (dk_at dksX4_origin_5 20 rfl rfl)
theorem dX4_origin_135 : decode cX4_origin 135 = .ok (.istore_n 3, 1) := dk_62 (dk_at dksX4_origin_5 21 rfl rfl)
theorem dX4_origin_136 : decode cX4_origin 136 = .ok (.iload 4, 2) := dk_21 4 (dk_at dksX4_origin_5 22 rfl rfl)
theorem dX4_origin_138 : decode cX4_origin 138 = .ok (.iload 7, 2) := dk_21 7 (dk_at dksX4_origin_6 0 rfl rfl)
theorem dX4_origin_140 : decode cX4_origin 140 = .ok (.iconst 2, 1) := dk_5 (dk_at dksX4_origin_6 2 rfl rfl)
theorem dX4_origin_141 : decode cX4_origin 141 = .ok (.iload 6, 2) := dk_21 6 (dk_at dksX4_origin_6 3 rfl rfl)
theorem dX4_origin_143 : decode cX4_origin 143 = .ok (.imul, 1) := dk_104 (dk_at dksX4_origin_6 5 rfl rfl)
theorem dX4_origin_144 : decode cX4_origin 144 = .ok (.if_icmp .ge 8, 3) := dk_162 0 8 (dk_at dksX4_origin_6 6 rfl rfl)
theorem dX4_origin_147 : decode cX4_origin 147 = .ok (.iload 7, 2) := dk_21 7 (dk_at dksX4_origin_6 9 rfl rfl)
theorem dX4_origin_149 : decode cX4_origin 149 = .ok (.goto 7, 3) := dk_167 0 7 (dk_at dksX4_origin_6 11 rfl rfl)
theorem dX4_origin_152 : decode cX4_origin 152 = .ok (.iconst 2, 1) := dk_5 (dk_at dksX4_origin_6 14 rfl rfl)
theorem dX4_origin_153 : decode cX4_origin 153 = .ok (.iload 6, 2) := dk_21 6 (dk_at dksX4_origin_6 15 rfl rfl)
theorem dX4_origin_155 : decode cX4_origin 155 = .ok (.imul, 1) := dk_104 (dk_at dksX4_origin_6 17 rfl rfl)
theorem dX4_origin_156 : decode cX4_origin 156 = .ok (.iadd, 1) := dk_96 (dk_at dksX4_origin_6 18 rfl rfl)
theorem dX4_origin_157 : decode cX4_origin 157 = .ok (.istore 4, 2) := dk_54 4 (dk_at dksX4_origin_6 19 rfl rfl)
theorem dX4_origin_159 : decode cX4_origin 159 = .ok (.iinc 5 1, 3) := dk_132 5 1 (dk_at dksX4_origin_6 21 rfl rfl)
theorem dX4_origin_162 : decode cX4_origin 162 = .ok (.goto (-143), 3) := dk_167 255 113 (dk_at dksX4_origin_7 0 rfl rfl)
theorem dX4_origin_165 : decode cX4_origin 165 = .ok (.iload_n 1, 1) := dk_27 (dk_at dksX4_origin_7 3 rfl rfl)
theorem dX4_origin_166 : decode cX4_origin 166 = .ok (.ifCond .ne 7, 3) := dk_154 0 7 (dk_at dksX4_origin_7 4 rfl rfl)
theorem dX4_origin_169 : decode cX4_origin 169 = .ok (.iload_n 3, 1) := dk_29 (dk_at dksX4_origin_7 7 rfl rfl)
theorem dX4_origin_170 : decode cX4_origin 170 = .ok (.goto 5, 3) := dk_167 0 5 (dk_at dksX4_origin_7 8 rfl rfl)
theorem dX4_origin_173 : decode cX4_origin 173 = .ok (.iload 4, 2) := dk_21 4 (dk_at dksX4_origin_7 11 rfl rfl)
theorem dX4_origin_175 : decode cX4_origin 175 = .ok (.ireturn, 1) := dk_172 (dk_at dksX4_origin_7 13 rfl rfl)
abbrev cX4_falses : ByteArray := prog_27_method_103_code
def yX4_falses : MethodName := ⟨RX4, "falses", "(I)I"⟩
def dkwX4_falses_3 : List UInt8 := [181, 1, 124, 132, 3, 1, 167, 255, 189, 28, 172]
abbrev dktX4_falses_3 : List UInt8 := dkwX4_falses_3 ++ []
def dkwX4_falses_2 : List UInt8 := [160, 0, 6, 167, 0, 23, 42, 180, 0, 92, 42, 180, 1, 124, 29, 79, 42, 89, 180, 1, 124, 4, 96]
abbrev dktX4_falses_2 : List UInt8 := dkwX4_falses_2 ++ dktX4_falses_3
def dkwX4_falses_1 : List UInt8 := [153, 0, 49, 42, 29, 182, 1, 186, 154, 0, 6, 167, 0, 38, 132, 2, 1, 42, 180, 1, 124, 16, 8]
abbrev dktX4_falses_1 : List UInt8 := dkwX4_falses_1 ++ dktX4_falses_2
def dkwX4_falses_0 : List UInt8 := [42, 3, 181, 1, 124, 3, 61, 3, 62, 29, 42, 180, 1, 121, 162, 0, 65, 42, 29, 4, 27, 182, 1, 174]
abbrev dktX4_falses_0 : List UInt8 := dkwX4_falses_0 ++ dktX4_falses_1
theorem dksX4_falses_0 : cX4_falses.data.toList.drop 0 = dktX4_falses_0 := by decide +kernel
theorem dksX4_falses_1 : cX4_falses.data.toList.drop 24 = dktX4_falses_1 := dk_seg dksX4_falses_0 24 rfl rfl
theorem dksX4_falses_2 : cX4_falses.data.toList.drop 47 = dktX4_falses_2 := dk_seg dksX4_falses_1 23 rfl rfl
theorem dksX4_falses_3 : cX4_falses.data.toList.drop 70 = dktX4_falses_3 := dk_seg dksX4_falses_2 23 rfl rfl
theorem dX4_falses_0 : decode cX4_falses 0 = .ok (.aload_n 0, 1) := dk_42 (dk_at dksX4_falses_0 0 rfl rfl)
theorem dX4_falses_1 : decode cX4_falses 1 = .ok (.iconst 0, 1) := dk_3 (dk_at dksX4_falses_0 1 rfl rfl)
theorem dX4_falses_2 : decode cX4_falses 2 = .ok (.putfield 380, 3) := dk_181 1 124 (dk_at dksX4_falses_0 2 rfl rfl)
theorem dX4_falses_5 : decode cX4_falses 5 = .ok (.iconst 0, 1) := dk_3 (dk_at dksX4_falses_0 5 rfl rfl)
theorem dX4_falses_6 : decode cX4_falses 6 = .ok (.istore_n 2, 1) := dk_61 (dk_at dksX4_falses_0 6 rfl rfl)
theorem dX4_falses_7 : decode cX4_falses 7 = .ok (.iconst 0, 1) := dk_3 (dk_at dksX4_falses_0 7 rfl rfl)
theorem dX4_falses_8 : decode cX4_falses 8 = .ok (.istore_n 3, 1) := dk_62 (dk_at dksX4_falses_0 8 rfl rfl)
theorem dX4_falses_9 : decode cX4_falses 9 = .ok (.iload_n 3, 1) := dk_29 (dk_at dksX4_falses_0 9 rfl rfl)
theorem dX4_falses_10 : decode cX4_falses 10 = .ok (.aload_n 0, 1) := dk_42 (dk_at dksX4_falses_0 10 rfl rfl)
theorem dX4_falses_11 : decode cX4_falses 11 = .ok (.getfield 377, 3) := dk_180 1 121 (dk_at dksX4_falses_0 11 rfl rfl)
theorem dX4_falses_14 : decode cX4_falses 14 = .ok (.if_icmp .ge 65, 3) := dk_162 0 65 (dk_at dksX4_falses_0 14 rfl rfl)
theorem dX4_falses_17 : decode cX4_falses 17 = .ok (.aload_n 0, 1) := dk_42 (dk_at dksX4_falses_0 17 rfl rfl)
theorem dX4_falses_18 : decode cX4_falses 18 = .ok (.iload_n 3, 1) := dk_29 (dk_at dksX4_falses_0 18 rfl rfl)
theorem dX4_falses_19 : decode cX4_falses 19 = .ok (.iconst 1, 1) := dk_4 (dk_at dksX4_falses_0 19 rfl rfl)
theorem dX4_falses_20 : decode cX4_falses 20 = .ok (.iload_n 1, 1) := dk_27 (dk_at dksX4_falses_0 20 rfl rfl)
theorem dX4_falses_21 : decode cX4_falses 21 = .ok (.invokevirtual 430, 3) := dk_182 1 174 (dk_at dksX4_falses_0 21 rfl rfl)
theorem dX4_falses_24 : decode cX4_falses 24 = .ok (.ifCond .eq 49, 3) := dk_153 0 49 (dk_at dksX4_falses_1 0 rfl rfl)
theorem dX4_falses_27 : decode cX4_falses 27 = .ok (.aload_n 0, 1) := dk_42 (dk_at dksX4_falses_1 3 rfl rfl)
theorem dX4_falses_28 : decode cX4_falses 28 = .ok (.iload_n 3, 1) := dk_29 (dk_at dksX4_falses_1 4 rfl rfl)
theorem dX4_falses_29 : decode cX4_falses 29 = .ok (.invokevirtual 442, 3) := dk_182 1 186 (dk_at dksX4_falses_1 5 rfl rfl)
theorem dX4_falses_32 : decode cX4_falses 32 = .ok (.ifCond .ne 6, 3) := dk_154 0 6 (dk_at dksX4_falses_1 8 rfl rfl)
theorem dX4_falses_35 : decode cX4_falses 35 = .ok (.goto 38, 3) := dk_167 0 38 (dk_at dksX4_falses_1 11 rfl rfl)
theorem dX4_falses_38 : decode cX4_falses 38 = .ok (.iinc 2 1, 3) := dk_132 2 1 (dk_at dksX4_falses_1 14 rfl rfl)
theorem dX4_falses_41 : decode cX4_falses 41 = .ok (.aload_n 0, 1) := dk_42 (dk_at dksX4_falses_1 17 rfl rfl)
theorem dX4_falses_42 : decode cX4_falses 42 = .ok (.getfield 380, 3) := dk_180 1 124 (dk_at dksX4_falses_1 18 rfl rfl)
theorem dX4_falses_45 : decode cX4_falses 45 = .ok (.bipush 8, 2) := dk_16 8 (dk_at dksX4_falses_1 21 rfl rfl)
theorem dX4_falses_47 : decode cX4_falses 47 = .ok (.if_icmp .ne 6, 3) := dk_160 0 6 (dk_at dksX4_falses_2 0 rfl rfl)
theorem dX4_falses_50 : decode cX4_falses 50 = .ok (.goto 23, 3) := dk_167 0 23 (dk_at dksX4_falses_2 3 rfl rfl)
theorem dX4_falses_53 : decode cX4_falses 53 = .ok (.aload_n 0, 1) := dk_42 (dk_at dksX4_falses_2 6 rfl rfl)
theorem dX4_falses_54 : decode cX4_falses 54 = .ok (.getfield 92, 3) := dk_180 0 92 (dk_at dksX4_falses_2 7 rfl rfl)
theorem dX4_falses_57 : decode cX4_falses 57 = .ok (.aload_n 0, 1) := dk_42 (dk_at dksX4_falses_2 10 rfl rfl)
theorem dX4_falses_58 : decode cX4_falses 58 = .ok (.getfield 380, 3) := dk_180 1 124 (dk_at dksX4_falses_2 11 rfl rfl)
theorem dX4_falses_61 : decode cX4_falses 61 = .ok (.iload_n 3, 1) := dk_29 (dk_at dksX4_falses_2 14 rfl rfl)
theorem dX4_falses_62 : decode cX4_falses 62 = .ok (.iastore, 1) := dk_79 (dk_at dksX4_falses_2 15 rfl rfl)
theorem dX4_falses_63 : decode cX4_falses 63 = .ok (.aload_n 0, 1) := dk_42 (dk_at dksX4_falses_2 16 rfl rfl)
theorem dX4_falses_64 : decode cX4_falses 64 = .ok (.dup, 1) := dk_89 (dk_at dksX4_falses_2 17 rfl rfl)
theorem dX4_falses_65 : decode cX4_falses 65 = .ok (.getfield 380, 3) := dk_180 1 124 (dk_at dksX4_falses_2 18 rfl rfl)
theorem dX4_falses_68 : decode cX4_falses 68 = .ok (.iconst 1, 1) := dk_4 (dk_at dksX4_falses_2 21 rfl rfl)
theorem dX4_falses_69 : decode cX4_falses 69 = .ok (.iadd, 1) := dk_96 (dk_at dksX4_falses_2 22 rfl rfl)
theorem dX4_falses_70 : decode cX4_falses 70 = .ok (.putfield 380, 3) := dk_181 1 124 (dk_at dksX4_falses_3 0 rfl rfl)
theorem dX4_falses_73 : decode cX4_falses 73 = .ok (.iinc 3 1, 3) := dk_132 3 1 (dk_at dksX4_falses_3 3 rfl rfl)
theorem dX4_falses_76 : decode cX4_falses 76 = .ok (.goto (-67), 3) := dk_167 255 189 (dk_at dksX4_falses_3 6 rfl rfl)
theorem dX4_falses_79 : decode cX4_falses 79 = .ok (.iload_n 2, 1) := dk_28 (dk_at dksX4_falses_3 9 rfl rfl)
theorem dX4_falses_80 : decode cX4_falses 80 = .ok (.ireturn, 1) := dk_172 (dk_at dksX4_falses_3 10 rfl rfl)
abbrev cX4_isFalse : ByteArray := prog_27_method_102_code
def yX4_isFalse : MethodName := ⟨RX4, "isFalse", "(I)Z"⟩
def dkwX4_isFalse_2 : List UInt8 := [180, 0, 77, 7, 42, 180, 0, 111, 27, 46, 104, 6, 96, 46, 162, 0, 7, 4, 167, 0, 4, 3, 172]
abbrev dktX4_isFalse_2 : List UInt8 := dkwX4_isFalse_2 ++ []
def dkwX4_isFalse_1 : List UInt8 := [180, 0, 111, 27, 46, 182, 1, 136, 182, 1, 93, 2, 130, 126, 154, 0, 27, 42, 180, 0, 114, 27, 46, 42]
abbrev dktX4_isFalse_1 : List UInt8 := dkwX4_isFalse_1 ++ dktX4_isFalse_2
def dkwX4_isFalse_0 : List UInt8 := [42, 42, 180, 0, 111, 27, 46, 182, 1, 127, 154, 0, 5, 4, 172, 42, 180, 0, 108, 27, 46, 42, 42, 42]
abbrev dktX4_isFalse_0 : List UInt8 := dkwX4_isFalse_0 ++ dktX4_isFalse_1
theorem dksX4_isFalse_0 : cX4_isFalse.data.toList.drop 0 = dktX4_isFalse_0 := by decide +kernel
theorem dksX4_isFalse_1 : cX4_isFalse.data.toList.drop 24 = dktX4_isFalse_1 := dk_seg dksX4_isFalse_0 24 rfl rfl
theorem dksX4_isFalse_2 : cX4_isFalse.data.toList.drop 48 = dktX4_isFalse_2 := dk_seg dksX4_isFalse_1 24 rfl rfl
theorem dX4_isFalse_0 : decode cX4_isFalse 0 = .ok (.aload_n 0, 1) := dk_42 (dk_at dksX4_isFalse_0 0 rfl rfl)
theorem dX4_isFalse_1 : decode cX4_isFalse 1 = .ok (.aload_n 0, 1) := dk_42 (dk_at dksX4_isFalse_0 1 rfl rfl)
theorem dX4_isFalse_2 : decode cX4_isFalse 2 = .ok (.getfield 111, 3) := dk_180 0 111 (dk_at dksX4_isFalse_0 2 rfl rfl)
theorem dX4_isFalse_5 : decode cX4_isFalse 5 = .ok (.iload_n 1, 1) := dk_27 (dk_at dksX4_isFalse_0 5 rfl rfl)
theorem dX4_isFalse_6 : decode cX4_isFalse 6 = .ok (.iaload, 1) := dk_46 (dk_at dksX4_isFalse_0 6 rfl rfl)
theorem dX4_isFalse_7 : decode cX4_isFalse 7 = .ok (.invokevirtual 383, 3) := dk_182 1 127 (dk_at dksX4_isFalse_0 7 rfl rfl)
theorem dX4_isFalse_10 : decode cX4_isFalse 10 = .ok (.ifCond .ne 5, 3) := dk_154 0 5 (dk_at dksX4_isFalse_0 10 rfl rfl)
theorem dX4_isFalse_13 : decode cX4_isFalse 13 = .ok (.iconst 1, 1) := dk_4 (dk_at dksX4_isFalse_0 13 rfl rfl)
theorem dX4_isFalse_14 : decode cX4_isFalse 14 = .ok (.ireturn, 1) := dk_172 (dk_at dksX4_isFalse_0 14 rfl rfl)
theorem dX4_isFalse_15 : decode cX4_isFalse 15 = .ok (.aload_n 0, 1) := dk_42 (dk_at dksX4_isFalse_0 15 rfl rfl)
theorem dX4_isFalse_16 : decode cX4_isFalse 16 = .ok (.getfield 108, 3) := dk_180 0 108 (dk_at dksX4_isFalse_0 16 rfl rfl)
theorem dX4_isFalse_19 : decode cX4_isFalse 19 = .ok (.iload_n 1, 1) := dk_27 (dk_at dksX4_isFalse_0 19 rfl rfl)
theorem dX4_isFalse_20 : decode cX4_isFalse 20 = .ok (.iaload, 1) := dk_46 (dk_at dksX4_isFalse_0 20 rfl rfl)
theorem dX4_isFalse_21 : decode cX4_isFalse 21 = .ok (.aload_n 0, 1) := dk_42 (dk_at dksX4_isFalse_0 21 rfl rfl)
theorem dX4_isFalse_22 : decode cX4_isFalse 22 = .ok (.aload_n 0, 1) := dk_42 (dk_at dksX4_isFalse_0 22 rfl rfl)
theorem dX4_isFalse_23 : decode cX4_isFalse 23 = .ok (.aload_n 0, 1) := dk_42 (dk_at dksX4_isFalse_0 23 rfl rfl)
theorem dX4_isFalse_24 : decode cX4_isFalse 24 = .ok (.getfield 111, 3) := dk_180 0 111 (dk_at dksX4_isFalse_1 0 rfl rfl)
theorem dX4_isFalse_27 : decode cX4_isFalse 27 = .ok (.iload_n 1, 1) := dk_27 (dk_at dksX4_isFalse_1 3 rfl rfl)
theorem dX4_isFalse_28 : decode cX4_isFalse 28 = .ok (.iaload, 1) := dk_46 (dk_at dksX4_isFalse_1 4 rfl rfl)
theorem dX4_isFalse_29 : decode cX4_isFalse 29 = .ok (.invokevirtual 392, 3) := dk_182 1 136 (dk_at dksX4_isFalse_1 5 rfl rfl)
theorem dX4_isFalse_32 : decode cX4_isFalse 32 = .ok (.invokevirtual 349, 3) := dk_182 1 93 (dk_at dksX4_isFalse_1 8 rfl rfl)
theorem dX4_isFalse_35 : decode cX4_isFalse 35 = .ok (.iconst (-1), 1) := dk_2 (dk_at dksX4_isFalse_1 11 rfl rfl)
theorem dX4_isFalse_36 : decode cX4_isFalse 36 = .ok (.ixor, 1) := dk_130 (dk_at dksX4_isFalse_1 12 rfl rfl)
theorem dX4_isFalse_37 : decode cX4_isFalse 37 = .ok (.iand, 1) := dk_126 (dk_at dksX4_isFalse_1 13 rfl rfl)
theorem dX4_isFalse_38 : decode cX4_isFalse 38 = .ok (.ifCond .ne 27, 3) := dk_154 0 27 (dk_at dksX4_isFalse_1 14 rfl rfl)
theorem dX4_isFalse_41 : decode cX4_isFalse 41 = .ok (.aload_n 0, 1) := dk_42 (dk_at dksX4_isFalse_1 17 rfl rfl)
theorem dX4_isFalse_42 : decode cX4_isFalse 42 = .ok (.getfield 114, 3) := dk_180 0 114 (dk_at dksX4_isFalse_1 18 rfl rfl)
theorem dX4_isFalse_45 : decode cX4_isFalse 45 = .ok (.iload_n 1, 1) := dk_27 (dk_at dksX4_isFalse_1 21 rfl rfl)
theorem dX4_isFalse_46 : decode cX4_isFalse 46 = .ok (.iaload, 1) := dk_46 (dk_at dksX4_isFalse_1 22 rfl rfl)
theorem dX4_isFalse_47 : decode cX4_isFalse 47 = .ok (.aload_n 0, 1) := dk_42 (dk_at dksX4_isFalse_1 23 rfl rfl)
theorem dX4_isFalse_48 : decode cX4_isFalse 48 = .ok (.getfield 77, 3) := dk_180 0 77 (dk_at dksX4_isFalse_2 0 rfl rfl)
theorem dX4_isFalse_51 : decode cX4_isFalse 51 = .ok (.iconst 4, 1) := dk_7 (dk_at dksX4_isFalse_2 3 rfl rfl)
theorem dX4_isFalse_52 : decode cX4_isFalse 52 = .ok (.aload_n 0, 1) := dk_42 (dk_at dksX4_isFalse_2 4 rfl rfl)
theorem dX4_isFalse_53 : decode cX4_isFalse 53 = .ok (.getfield 111, 3) := dk_180 0 111 (dk_at dksX4_isFalse_2 5 rfl rfl)
theorem dX4_isFalse_56 : decode cX4_isFalse 56 = .ok (.iload_n 1, 1) := dk_27 (dk_at dksX4_isFalse_2 8 rfl rfl)
theorem dX4_isFalse_57 : decode cX4_isFalse 57 = .ok (.iaload, 1) := dk_46 (dk_at dksX4_isFalse_2 9 rfl rfl)
theorem dX4_isFalse_58 : decode cX4_isFalse 58 = .ok (.imul, 1) := dk_104 (dk_at dksX4_isFalse_2 10 rfl rfl)
theorem dX4_isFalse_59 : decode cX4_isFalse 59 = .ok (.iconst 3, 1) := dk_6 (dk_at dksX4_isFalse_2 11 rfl rfl)
theorem dX4_isFalse_60 : decode cX4_isFalse 60 = .ok (.iadd, 1) := dk_96 (dk_at dksX4_isFalse_2 12 rfl rfl)
theorem dX4_isFalse_61 : decode cX4_isFalse 61 = .ok (.iaload, 1) := dk_46 (dk_at dksX4_isFalse_2 13 rfl rfl)
theorem dX4_isFalse_62 : decode cX4_isFalse 62 = .ok (.if_icmp .ge 7, 3) := dk_162 0 7 (dk_at dksX4_isFalse_2 14 rfl rfl)
theorem dX4_isFalse_65 : decode cX4_isFalse 65 = .ok (.iconst 1, 1) := dk_4 (dk_at dksX4_isFalse_2 17 rfl rfl)
theorem dX4_isFalse_66 : decode cX4_isFalse 66 = .ok (.goto 4, 3) := dk_167 0 4 (dk_at dksX4_isFalse_2 18 rfl rfl)
theorem dX4_isFalse_69 : decode cX4_isFalse 69 = .ok (.iconst 0, 1) := dk_3 (dk_at dksX4_isFalse_2 21 rfl rfl)
theorem dX4_isFalse_70 : decode cX4_isFalse 70 = .ok (.ireturn, 1) := dk_172 (dk_at dksX4_isFalse_2 22 rfl rfl)
abbrev cX4_span : ByteArray := prog_27_method_104_code
def yX4_span : MethodName := ⟨RX4, "span", "(III)I"⟩
def dkwX4_span_8 : List UInt8 := [21, 5, 172]
abbrev dktX4_span_8 : List UInt8 := dkwX4_span_8 ++ []
def dkwX4_span_7 : List UInt8 := [4, 96, 172, 21, 5, 21, 4, 162, 0, 7, 2, 167, 0, 14, 28, 154, 0, 8, 21, 4, 167, 0, 5]
abbrev dktX4_span_7 : List UInt8 := dkwX4_span_7 ++ dktX4_span_8
def dkwX4_span_6 : List UInt8 := [167, 255, 152, 28, 5, 160, 0, 22, 21, 5, 21, 4, 162, 0, 7, 3, 167, 0, 10, 21, 5, 21, 4, 100]
abbrev dktX4_span_6 : List UInt8 := dkwX4_span_6 ++ dktX4_span_7
def dkwX4_span_5 : List UInt8 := [180, 0, 111, 21, 6, 46, 21, 5, 162, 0, 12, 42, 180, 0, 111, 21, 6, 46, 54, 5, 132, 6, 1]
abbrev dktX4_span_5 : List UInt8 := dkwX4_span_5 ++ dktX4_span_6
def dkwX4_span_4 : List UInt8 := [42, 180, 0, 111, 21, 6, 46, 4, 96, 54, 4, 42, 180, 0, 114, 21, 6, 46, 154, 0, 24, 42]
abbrev dktX4_span_4 : List UInt8 := dkwX4_span_4 ++ dktX4_span_5
def dkwX4_span_3 : List UInt8 := [180, 0, 114, 21, 6, 46, 4, 160, 0, 28, 42, 180, 0, 111, 21, 6, 46, 4, 96, 21, 4, 164, 0, 14]
abbrev dktX4_span_3 : List UInt8 := dkwX4_span_3 ++ dktX4_span_4
def dkwX4_span_2 : List UInt8 := [5, 29, 182, 1, 174, 153, 0, 84, 42, 180, 0, 108, 21, 6, 46, 27, 159, 0, 6, 167, 0, 70, 42]
abbrev dktX4_span_2 : List UInt8 := dkwX4_span_2 ++ dktX4_span_3
def dkwX4_span_1 : List UInt8 := [172, 3, 54, 4, 17, 3, 231, 54, 5, 3, 54, 6, 21, 6, 42, 180, 1, 121, 162, 0, 101, 42, 21, 6]
abbrev dktX4_span_1 : List UInt8 := dkwX4_span_1 ++ dktX4_span_2
def dkwX4_span_0 : List UInt8 := [27, 3, 42, 182, 1, 86, 4, 100, 184, 1, 89, 153, 0, 12, 28, 3, 5, 184, 1, 89, 154, 0, 5, 2]
abbrev dktX4_span_0 : List UInt8 := dkwX4_span_0 ++ dktX4_span_1
theorem dksX4_span_0 : cX4_span.data.toList.drop 0 = dktX4_span_0 := by decide +kernel
theorem dksX4_span_1 : cX4_span.data.toList.drop 24 = dktX4_span_1 := dk_seg dksX4_span_0 24 rfl rfl
theorem dksX4_span_2 : cX4_span.data.toList.drop 48 = dktX4_span_2 := dk_seg dksX4_span_1 24 rfl rfl
theorem dksX4_span_3 : cX4_span.data.toList.drop 71 = dktX4_span_3 := dk_seg dksX4_span_2 23 rfl rfl
theorem dksX4_span_4 : cX4_span.data.toList.drop 95 = dktX4_span_4 := dk_seg dksX4_span_3 24 rfl rfl
theorem dksX4_span_5 : cX4_span.data.toList.drop 117 = dktX4_span_5 := dk_seg dksX4_span_4 22 rfl rfl
theorem dksX4_span_6 : cX4_span.data.toList.drop 140 = dktX4_span_6 := dk_seg dksX4_span_5 23 rfl rfl
theorem dksX4_span_7 : cX4_span.data.toList.drop 164 = dktX4_span_7 := dk_seg dksX4_span_6 24 rfl rfl
theorem dksX4_span_8 : cX4_span.data.toList.drop 187 = dktX4_span_8 := dk_seg dksX4_span_7 23 rfl rfl
theorem dX4_span_0 : decode cX4_span 0 = .ok (.iload_n 1, 1) := dk_27 (dk_at dksX4_span_0 0 rfl rfl)
theorem dX4_span_1 : decode cX4_span 1 = .ok (.iconst 0, 1) := dk_3 (dk_at dksX4_span_0 1 rfl rfl)
theorem dX4_span_2 : decode cX4_span 2 = .ok (.aload_n 0, 1) := dk_42 (dk_at dksX4_span_0 2 rfl rfl)
theorem dX4_span_3 : decode cX4_span 3 = .ok (.invokevirtual 342, 3) := dk_182 1 86 (dk_at dksX4_span_0 3 rfl rfl)
theorem dX4_span_6 : decode cX4_span 6 = .ok (.iconst 1, 1) := dk_4 (dk_at dksX4_span_0 6 rfl rfl)
theorem dX4_span_7 : decode cX4_span 7 = .ok (.isub, 1) := dk_100 (dk_at dksX4_span_0 7 rfl rfl)
theorem dX4_span_8 : decode cX4_span 8 = .ok (.invokestatic 345, 3) := dk_184 1 89 (dk_at dksX4_span_0 8 rfl rfl)
theorem dX4_span_11 : decode cX4_span 11 = .ok (.ifCond .eq 12, 3) := dk_153 0 12 (dk_at dksX4_span_0 11 rfl rfl)
theorem dX4_span_14 : decode cX4_span 14 = .ok (.iload_n 2, 1) := dk_28 (dk_at dksX4_span_0 14 rfl rfl)
theorem dX4_span_15 : decode cX4_span 15 = .ok (.iconst 0, 1) := dk_3 (dk_at dksX4_span_0 15 rfl rfl)
theorem dX4_span_16 : decode cX4_span 16 = .ok (.iconst 2, 1) := dk_5 (dk_at dksX4_span_0 16 rfl rfl)
theorem dX4_span_17 : decode cX4_span 17 = .ok (.invokestatic 345, 3) := dk_184 1 89 (dk_at dksX4_span_0 17 rfl rfl)
theorem dX4_span_20 : decode cX4_span 20 = .ok (.ifCond .ne 5, 3) := dk_154 0 5 (dk_at dksX4_span_0 20 rfl rfl)
theorem dX4_span_23 : decode cX4_span 23 = .ok (.iconst (-1), 1) := dk_2 (dk_at dksX4_span_0 23 rfl rfl)
theorem dX4_span_24 : decode cX4_span 24 = .ok (.ireturn, 1) := dk_172 (dk_at dksX4_span_1 0 rfl rfl)
theorem dX4_span_25 : decode cX4_span 25 = .ok (.iconst 0, 1) := dk_3 (dk_at dksX4_span_1 1 rfl rfl)
theorem dX4_span_26 : decode cX4_span 26 = .ok (.istore 4, 2) := dk_54 4 (dk_at dksX4_span_1 2 rfl rfl)
theorem dX4_span_28 : decode cX4_span 28 = .ok (.sipush 999, 3) := dk_17 3 231 (dk_at dksX4_span_1 4 rfl rfl)
theorem dX4_span_31 : decode cX4_span 31 = .ok (.istore 5, 2) := dk_54 5 (dk_at dksX4_span_1 7 rfl rfl)
theorem dX4_span_33 : decode cX4_span 33 = .ok (.iconst 0, 1) := dk_3 (dk_at dksX4_span_1 9 rfl rfl)
theorem dX4_span_34 : decode cX4_span 34 = .ok (.istore 6, 2) := dk_54 6 (dk_at dksX4_span_1 10 rfl rfl)
theorem dX4_span_36 : decode cX4_span 36 = .ok (.iload 6, 2) := dk_21 6 (dk_at dksX4_span_1 12 rfl rfl)
theorem dX4_span_38 : decode cX4_span 38 = .ok (.aload_n 0, 1) := dk_42 (dk_at dksX4_span_1 14 rfl rfl)
theorem dX4_span_39 : decode cX4_span 39 = .ok (.getfield 377, 3) := dk_180 1 121 (dk_at dksX4_span_1 15 rfl rfl)
theorem dX4_span_42 : decode cX4_span 42 = .ok (.if_icmp .ge 101, 3) := dk_162 0 101 (dk_at dksX4_span_1 18 rfl rfl)
theorem dX4_span_45 : decode cX4_span 45 = .ok (.aload_n 0, 1) := dk_42 (dk_at dksX4_span_1 21 rfl rfl)
theorem dX4_span_46 : decode cX4_span 46 = .ok (.iload 6, 2) := dk_21 6 (dk_at dksX4_span_1 22 rfl rfl)
theorem dX4_span_48 : decode cX4_span 48 = .ok (.iconst 2, 1) := dk_5 (dk_at dksX4_span_2 0 rfl rfl)
theorem dX4_span_49 : decode cX4_span 49 = .ok (.iload_n 3, 1) := dk_29 (dk_at dksX4_span_2 1 rfl rfl)
theorem dX4_span_50 : decode cX4_span 50 = .ok (.invokevirtual 430, 3) := dk_182 1 174 (dk_at dksX4_span_2 2 rfl rfl)
theorem dX4_span_53 : decode cX4_span 53 = .ok (.ifCond .eq 84, 3) := dk_153 0 84 (dk_at dksX4_span_2 5 rfl rfl)
theorem dX4_span_56 : decode cX4_span 56 = .ok (.aload_n 0, 1) := dk_42 (dk_at dksX4_span_2 8 rfl rfl)
theorem dX4_span_57 : decode cX4_span 57 = .ok (.getfield 108, 3) := dk_180 0 108 (dk_at dksX4_span_2 9 rfl rfl)
theorem dX4_span_60 : decode cX4_span 60 = .ok (.iload 6, 2) := dk_21 6 (dk_at dksX4_span_2 12 rfl rfl)
theorem dX4_span_62 : decode cX4_span 62 = .ok (.iaload, 1) := dk_46 (dk_at dksX4_span_2 14 rfl rfl)
theorem dX4_span_63 : decode cX4_span 63 = .ok (.iload_n 1, 1) := dk_27 (dk_at dksX4_span_2 15 rfl rfl)
theorem dX4_span_64 : decode cX4_span 64 = .ok (.if_icmp .eq 6, 3) := dk_159 0 6 (dk_at dksX4_span_2 16 rfl rfl)
theorem dX4_span_67 : decode cX4_span 67 = .ok (.goto 70, 3) := dk_167 0 70 (dk_at dksX4_span_2 19 rfl rfl)
theorem dX4_span_70 : decode cX4_span 70 = .ok (.aload_n 0, 1) := dk_42 (dk_at dksX4_span_2 22 rfl rfl)
theorem dX4_span_71 : decode cX4_span 71 = .ok (.getfield 114, 3) := dk_180 0 114 (dk_at dksX4_span_3 0 rfl rfl)
theorem dX4_span_74 : decode cX4_span 74 = .ok (.iload 6, 2) := dk_21 6 (dk_at dksX4_span_3 3 rfl rfl)
theorem dX4_span_76 : decode cX4_span 76 = .ok (.iaload, 1) := dk_46 (dk_at dksX4_span_3 5 rfl rfl)
theorem dX4_span_77 : decode cX4_span 77 = .ok (.iconst 1, 1) := dk_4 (dk_at dksX4_span_3 6 rfl rfl)
theorem dX4_span_78 : decode cX4_span 78 = .ok (.if_icmp .ne 28, 3) := dk_160 0 28 (dk_at dksX4_span_3 7 rfl rfl)
theorem dX4_span_81 : decode cX4_span 81 = .ok (.aload_n 0, 1) := dk_42 (dk_at dksX4_span_3 10 rfl rfl)
theorem dX4_span_82 : decode cX4_span 82 = .ok (.getfield 111, 3) := dk_180 0 111 (dk_at dksX4_span_3 11 rfl rfl)
theorem dX4_span_85 : decode cX4_span 85 = .ok (.iload 6, 2) := dk_21 6 (dk_at dksX4_span_3 14 rfl rfl)
theorem dX4_span_87 : decode cX4_span 87 = .ok (.iaload, 1) := dk_46 (dk_at dksX4_span_3 16 rfl rfl)
theorem dX4_span_88 : decode cX4_span 88 = .ok (.iconst 1, 1) := dk_4 (dk_at dksX4_span_3 17 rfl rfl)
theorem dX4_span_89 : decode cX4_span 89 = .ok (.iadd, 1) := dk_96 (dk_at dksX4_span_3 18 rfl rfl)
theorem dX4_span_90 : decode cX4_span 90 = .ok (.iload 4, 2) := dk_21 4 (dk_at dksX4_span_3 19 rfl rfl)
theorem dX4_span_92 : decode cX4_span 92 = .ok (.if_icmp .le 14, 3) := dk_164 0 14 (dk_at dksX4_span_3 21 rfl rfl)
theorem dX4_span_95 : decode cX4_span 95 = .ok (.aload_n 0, 1) := dk_42 (dk_at dksX4_span_4 0 rfl rfl)
theorem dX4_span_96 : decode cX4_span 96 = .ok (.getfield 111, 3) := dk_180 0 111 (dk_at dksX4_span_4 1 rfl rfl)
theorem dX4_span_99 : decode cX4_span 99 = .ok (.iload 6, 2) := dk_21 6 (dk_at dksX4_span_4 4 rfl rfl)
theorem dX4_span_101 : decode cX4_span 101 = .ok (.iaload, 1) := dk_46 (dk_at dksX4_span_4 6 rfl rfl)
theorem dX4_span_102 : decode cX4_span 102 = .ok (.iconst 1, 1) := dk_4 (dk_at dksX4_span_4 7 rfl rfl)
theorem dX4_span_103 : decode cX4_span 103 = .ok (.iadd, 1) := dk_96 (dk_at dksX4_span_4 8 rfl rfl)
theorem dX4_span_104 : decode cX4_span 104 = .ok (.istore 4, 2) := dk_54 4 (dk_at dksX4_span_4 9 rfl rfl)
theorem dX4_span_106 : decode cX4_span 106 = .ok (.aload_n 0, 1) := dk_42 (dk_at dksX4_span_4 11 rfl rfl)
theorem dX4_span_107 : decode cX4_span 107 = .ok (.getfield 114, 3) := dk_180 0 114 (dk_at dksX4_span_4 12 rfl rfl)
theorem dX4_span_110 : decode cX4_span 110 = .ok (.iload 6, 2) := dk_21 6 (dk_at dksX4_span_4 15 rfl rfl)
theorem dX4_span_112 : decode cX4_span 112 = .ok (.iaload, 1) := dk_46 (dk_at dksX4_span_4 17 rfl rfl)
theorem dX4_span_113 : decode cX4_span 113 = .ok (.ifCond .ne 24, 3) := dk_154 0 24 (dk_at dksX4_span_4 18 rfl rfl)
theorem dX4_span_116 : decode cX4_span 116 = .ok (.aload_n 0, 1) := dk_42 (dk_at dksX4_span_4 21 rfl rfl)
theorem dX4_span_117 : decode cX4_span 117 = .ok (.getfield 111, 3) := dk_180 0 111 (dk_at dksX4_span_5 0 rfl rfl)
theorem dX4_span_120 : decode cX4_span 120 = .ok (.iload 6, 2) := dk_21 6 (dk_at dksX4_span_5 3 rfl rfl)
theorem dX4_span_122 : decode cX4_span 122 = .ok (.iaload, 1) := dk_46 (dk_at dksX4_span_5 5 rfl rfl)
theorem dX4_span_123 : decode cX4_span 123 = .ok (.iload 5, 2) := dk_21 5 (dk_at dksX4_span_5 6 rfl rfl)
theorem dX4_span_125 : decode cX4_span 125 = .ok (.if_icmp .ge 12, 3) := dk_162 0 12 (dk_at dksX4_span_5 8 rfl rfl)
theorem dX4_span_128 : decode cX4_span 128 = .ok (.aload_n 0, 1) := dk_42 (dk_at dksX4_span_5 11 rfl rfl)
theorem dX4_span_129 : decode cX4_span 129 = .ok (.getfield 111, 3) := dk_180 0 111 (dk_at dksX4_span_5 12 rfl rfl)
theorem dX4_span_132 : decode cX4_span 132 = .ok (.iload 6, 2) := dk_21 6 (dk_at dksX4_span_5 15 rfl rfl)
theorem dX4_span_134 : decode cX4_span 134 = .ok (.iaload, 1) := dk_46 (dk_at dksX4_span_5 17 rfl rfl)
theorem dX4_span_135 : decode cX4_span 135 = .ok (.istore 5, 2) := dk_54 5 (dk_at dksX4_span_5 18 rfl rfl)
theorem dX4_span_137 : decode cX4_span 137 = .ok (.iinc 6 1, 3) := dk_132 6 1 (dk_at dksX4_span_5 20 rfl rfl)
theorem dX4_span_140 : decode cX4_span 140 = .ok (.goto (-104), 3) := dk_167 255 152 (dk_at dksX4_span_6 0 rfl rfl)
theorem dX4_span_143 : decode cX4_span 143 = .ok (.iload_n 2, 1) := dk_28 (dk_at dksX4_span_6 3 rfl rfl)
theorem dX4_span_144 : decode cX4_span 144 = .ok (.iconst 2, 1) := dk_5 (dk_at dksX4_span_6 4 rfl rfl)
theorem dX4_span_145 : decode cX4_span 145 = .ok (.if_icmp .ne 22, 3) := dk_160 0 22 (dk_at dksX4_span_6 5 rfl rfl)
theorem dX4_span_148 : decode cX4_span 148 = .ok (.iload 5, 2) := dk_21 5 (dk_at dksX4_span_6 8 rfl rfl)
theorem dX4_span_150 : decode cX4_span 150 = .ok (.iload 4, 2) := dk_21 4 (dk_at dksX4_span_6 10 rfl rfl)
theorem dX4_span_152 : decode cX4_span 152 = .ok (.if_icmp .ge 7, 3) := dk_162 0 7 (dk_at dksX4_span_6 12 rfl rfl)
theorem dX4_span_155 : decode cX4_span 155 = .ok (.iconst 0, 1) := dk_3 (dk_at dksX4_span_6 15 rfl rfl)
theorem dX4_span_156 : decode cX4_span 156 = .ok (.goto 10, 3) := dk_167 0 10 (dk_at dksX4_span_6 16 rfl rfl)
theorem dX4_span_159 : decode cX4_span 159 = .ok (.iload 5, 2) := dk_21 5 (dk_at dksX4_span_6 19 rfl rfl)
theorem dX4_span_161 : decode cX4_span 161 = .ok (.iload 4, 2) := dk_21 4 (dk_at dksX4_span_6 21 rfl rfl)
theorem dX4_span_163 : decode cX4_span 163 = .ok (.isub, 1) := dk_100 (dk_at dksX4_span_6 23 rfl rfl)
theorem dX4_span_164 : decode cX4_span 164 = .ok (.iconst 1, 1) := dk_4 (dk_at dksX4_span_7 0 rfl rfl)
theorem dX4_span_165 : decode cX4_span 165 = .ok (.iadd, 1) := dk_96 (dk_at dksX4_span_7 1 rfl rfl)
theorem dX4_span_166 : decode cX4_span 166 = .ok (.ireturn, 1) := dk_172 (dk_at dksX4_span_7 2 rfl rfl)
theorem dX4_span_167 : decode cX4_span 167 = .ok (.iload 5, 2) := dk_21 5 (dk_at dksX4_span_7 3 rfl rfl)
theorem dX4_span_169 : decode cX4_span 169 = .ok (.iload 4, 2) := dk_21 4 (dk_at dksX4_span_7 5 rfl rfl)
theorem dX4_span_171 : decode cX4_span 171 = .ok (.if_icmp .ge 7, 3) := dk_162 0 7 (dk_at dksX4_span_7 7 rfl rfl)
theorem dX4_span_174 : decode cX4_span 174 = .ok (.iconst (-1), 1) := dk_2 (dk_at dksX4_span_7 10 rfl rfl)
theorem dX4_span_175 : decode cX4_span 175 = .ok (.goto 14, 3) := dk_167 0 14 (dk_at dksX4_span_7 11 rfl rfl)
theorem dX4_span_178 : decode cX4_span 178 = .ok (.iload_n 2, 1) := dk_28 (dk_at dksX4_span_7 14 rfl rfl)
theorem dX4_span_179 : decode cX4_span 179 = .ok (.ifCond .ne 8, 3) := dk_154 0 8 (dk_at dksX4_span_7 15 rfl rfl)
theorem dX4_span_182 : decode cX4_span 182 = .ok (.iload 4, 2) := dk_21 4 (dk_at dksX4_span_7 18 rfl rfl)
theorem dX4_span_184 : decode cX4_span 184 = .ok (.goto 5, 3) := dk_167 0 5 (dk_at dksX4_span_7 20 rfl rfl)
theorem dX4_span_187 : decode cX4_span 187 = .ok (.iload 5, 2) := dk_21 5 (dk_at dksX4_span_8 0 rfl rfl)
theorem dX4_span_189 : decode cX4_span 189 = .ok (.ireturn, 1) := dk_172 (dk_at dksX4_span_8 2 rfl rfl)
abbrev cX4_backward : ByteArray := prog_27_method_106_code
def yX4_backward : MethodName := ⟨RX4, "backward", "(II)I"⟩
def dkwX4_backward_2 : List UInt8 := [3, 46, 130, 167, 0, 4, 2, 172]
abbrev dktX4_backward_2 : List UInt8 := dkwX4_backward_2 ++ []
def dkwX4_backward_1 : List UInt8 := [180, 0, 138, 27, 46, 42, 180, 0, 138, 3, 46, 160, 0, 19, 42, 180, 0, 135, 27, 46, 42, 180, 0, 135]
abbrev dktX4_backward_1 : List UInt8 := dkwX4_backward_1 ++ dktX4_backward_2
def dkwX4_backward_0 : List UInt8 := [27, 3, 16, 7, 184, 1, 89, 154, 0, 5, 2, 172, 42, 28, 182, 1, 189, 154, 0, 6, 16, 254, 172, 42]
abbrev dktX4_backward_0 : List UInt8 := dkwX4_backward_0 ++ dktX4_backward_1
theorem dksX4_backward_0 : cX4_backward.data.toList.drop 0 = dktX4_backward_0 := by decide +kernel
theorem dksX4_backward_1 : cX4_backward.data.toList.drop 24 = dktX4_backward_1 := dk_seg dksX4_backward_0 24 rfl rfl
theorem dksX4_backward_2 : cX4_backward.data.toList.drop 48 = dktX4_backward_2 := dk_seg dksX4_backward_1 24 rfl rfl
theorem dX4_backward_0 : decode cX4_backward 0 = .ok (.iload_n 1, 1) := dk_27 (dk_at dksX4_backward_0 0 rfl rfl)
theorem dX4_backward_1 : decode cX4_backward 1 = .ok (.iconst 0, 1) := dk_3 (dk_at dksX4_backward_0 1 rfl rfl)
theorem dX4_backward_2 : decode cX4_backward 2 = .ok (.bipush 7, 2) := dk_16 7 (dk_at dksX4_backward_0 2 rfl rfl)
theorem dX4_backward_4 : decode cX4_backward 4 = .ok (.invokestatic 345, 3) := dk_184 1 89 (dk_at dksX4_backward_0 4 rfl rfl)
theorem dX4_backward_7 : decode cX4_backward 7 = .ok (.ifCond .ne 5, 3) := dk_154 0 5 (dk_at dksX4_backward_0 7 rfl rfl)
theorem dX4_backward_10 : decode cX4_backward 10 = .ok (.iconst (-1), 1) := dk_2 (dk_at dksX4_backward_0 10 rfl rfl)
theorem dX4_backward_11 : decode cX4_backward 11 = .ok (.ireturn, 1) := dk_172 (dk_at dksX4_backward_0 11 rfl rfl)
theorem dX4_backward_12 : decode cX4_backward 12 = .ok (.aload_n 0, 1) := dk_42 (dk_at dksX4_backward_0 12 rfl rfl)
theorem dX4_backward_13 : decode cX4_backward 13 = .ok (.iload_n 2, 1) := dk_28 (dk_at dksX4_backward_0 13 rfl rfl)
theorem dX4_backward_14 : decode cX4_backward 14 = .ok (.invokevirtual 445, 3) := dk_182 1 189 (dk_at dksX4_backward_0 14 rfl rfl)
theorem dX4_backward_17 : decode cX4_backward 17 = .ok (.ifCond .ne 6, 3) := dk_154 0 6 (dk_at dksX4_backward_0 17 rfl rfl)
theorem dX4_backward_20 : decode cX4_backward 20 = .ok (.bipush (-2), 2) := dk_16 254 (dk_at dksX4_backward_0 20 rfl rfl)
theorem dX4_backward_22 : decode cX4_backward 22 = .ok (.ireturn, 1) := dk_172 (dk_at dksX4_backward_0 22 rfl rfl)
theorem dX4_backward_23 : decode cX4_backward 23 = .ok (.aload_n 0, 1) := dk_42 (dk_at dksX4_backward_0 23 rfl rfl)
theorem dX4_backward_24 : decode cX4_backward 24 = .ok (.getfield 138, 3) := dk_180 0 138 (dk_at dksX4_backward_1 0 rfl rfl)
theorem dX4_backward_27 : decode cX4_backward 27 = .ok (.iload_n 1, 1) := dk_27 (dk_at dksX4_backward_1 3 rfl rfl)
theorem dX4_backward_28 : decode cX4_backward 28 = .ok (.iaload, 1) := dk_46 (dk_at dksX4_backward_1 4 rfl rfl)
theorem dX4_backward_29 : decode cX4_backward 29 = .ok (.aload_n 0, 1) := dk_42 (dk_at dksX4_backward_1 5 rfl rfl)
theorem dX4_backward_30 : decode cX4_backward 30 = .ok (.getfield 138, 3) := dk_180 0 138 (dk_at dksX4_backward_1 6 rfl rfl)
theorem dX4_backward_33 : decode cX4_backward 33 = .ok (.iconst 0, 1) := dk_3 (dk_at dksX4_backward_1 9 rfl rfl)
theorem dX4_backward_34 : decode cX4_backward 34 = .ok (.iaload, 1) := dk_46 (dk_at dksX4_backward_1 10 rfl rfl)
theorem dX4_backward_35 : decode cX4_backward 35 = .ok (.if_icmp .ne 19, 3) := dk_160 0 19 (dk_at dksX4_backward_1 11 rfl rfl)
theorem dX4_backward_38 : decode cX4_backward 38 = .ok (.aload_n 0, 1) := dk_42 (dk_at dksX4_backward_1 14 rfl rfl)
theorem dX4_backward_39 : decode cX4_backward 39 = .ok (.getfield 135, 3) := dk_180 0 135 (dk_at dksX4_backward_1 15 rfl rfl)
theorem dX4_backward_42 : decode cX4_backward 42 = .ok (.iload_n 1, 1) := dk_27 (dk_at dksX4_backward_1 18 rfl rfl)
theorem dX4_backward_43 : decode cX4_backward 43 = .ok (.iaload, 1) := dk_46 (dk_at dksX4_backward_1 19 rfl rfl)
theorem dX4_backward_44 : decode cX4_backward 44 = .ok (.aload_n 0, 1) := dk_42 (dk_at dksX4_backward_1 20 rfl rfl)
theorem dX4_backward_45 : decode cX4_backward 45 = .ok (.getfield 135, 3) := dk_180 0 135 (dk_at dksX4_backward_1 21 rfl rfl)
theorem dX4_backward_48 : decode cX4_backward 48 = .ok (.iconst 0, 1) := dk_3 (dk_at dksX4_backward_2 0 rfl rfl)
theorem dX4_backward_49 : decode cX4_backward 49 = .ok (.iaload, 1) := dk_46 (dk_at dksX4_backward_2 1 rfl rfl)
theorem dX4_backward_50 : decode cX4_backward 50 = .ok (.ixor, 1) := dk_130 (dk_at dksX4_backward_2 2 rfl rfl)
theorem dX4_backward_51 : decode cX4_backward 51 = .ok (.goto 4, 3) := dk_167 0 4 (dk_at dksX4_backward_2 3 rfl rfl)
theorem dX4_backward_54 : decode cX4_backward 54 = .ok (.iconst (-1), 1) := dk_2 (dk_at dksX4_backward_2 6 rfl rfl)
theorem dX4_backward_55 : decode cX4_backward 55 = .ok (.ireturn, 1) := dk_172 (dk_at dksX4_backward_2 7 rfl rfl)
abbrev cX4_layLinks : ByteArray := prog_27_method_105_code
def yX4_layLinks : MethodName := ⟨RX4, "layLinks", "(I)Z"⟩
def dkwX4_layLinks_8 : List UInt8 := [21, 6, 130, 79, 132, 7, 1, 167, 255, 206, 132, 2, 1, 167, 255, 88, 4, 172]
abbrev dktX4_layLinks_8 : List UInt8 := dkwX4_layLinks_8 ++ []
def dkwX4_layLinks_7 : List UInt8 := [167, 0, 28, 42, 180, 0, 138, 21, 7, 42, 180, 0, 138, 29, 46, 79, 42, 180, 0, 135, 21, 7, 92, 46]
abbrev dktX4_layLinks_7 : List UInt8 := dkwX4_layLinks_7 ++ dktX4_layLinks_8
def dkwX4_layLinks_6 : List UInt8 := [54, 6, 3, 54, 7, 21, 7, 16, 8, 162, 0, 49, 42, 180, 0, 138, 21, 7, 46, 21, 5, 159, 0, 6]
abbrev dktX4_layLinks_6 : List UInt8 := dkwX4_layLinks_6 ++ dktX4_layLinks_7
def dkwX4_layLinks_5 : List UInt8 := [46, 54, 5, 42, 180, 0, 135, 29, 46, 42, 180, 0, 135, 21, 4, 46, 130, 42, 180, 0, 114, 28, 46, 130]
abbrev dktX4_layLinks_5 : List UInt8 := dkwX4_layLinks_5 ++ dktX4_layLinks_6
def dkwX4_layLinks_4 : List UInt8 := [180, 0, 135, 21, 4, 46, 130, 42, 180, 0, 114, 28, 46, 159, 0, 93, 3, 172, 42, 180, 0, 138, 21, 4]
abbrev dktX4_layLinks_4 : List UInt8 := dkwX4_layLinks_4 ++ dktX4_layLinks_5
def dkwX4_layLinks_3 : List UInt8 := [180, 0, 138, 29, 46, 42, 180, 0, 138, 21, 4, 46, 160, 0, 28, 42, 180, 0, 135, 29, 46, 42]
abbrev dktX4_layLinks_3 : List UInt8 := dkwX4_layLinks_3 ++ dktX4_layLinks_4
def dkwX4_layLinks_2 : List UInt8 := [154, 0, 6, 167, 0, 147, 42, 180, 0, 108, 28, 46, 62, 42, 180, 0, 111, 28, 46, 54, 4, 42]
abbrev dktX4_layLinks_2 : List UInt8 := dkwX4_layLinks_2 ++ dktX4_layLinks_3
def dkwX4_layLinks_1 : List UInt8 := [132, 2, 1, 167, 255, 233, 3, 61, 28, 42, 180, 1, 121, 162, 0, 166, 42, 28, 6, 27, 182, 1, 174]
abbrev dktX4_layLinks_1 : List UInt8 := dkwX4_layLinks_1 ++ dktX4_layLinks_2
def dkwX4_layLinks_0 : List UInt8 := [3, 61, 28, 16, 8, 162, 0, 23, 42, 180, 0, 135, 28, 3, 79, 42, 180, 0, 138, 28, 28, 79]
abbrev dktX4_layLinks_0 : List UInt8 := dkwX4_layLinks_0 ++ dktX4_layLinks_1
theorem dksX4_layLinks_0 : cX4_layLinks.data.toList.drop 0 = dktX4_layLinks_0 := by decide +kernel
theorem dksX4_layLinks_1 : cX4_layLinks.data.toList.drop 22 = dktX4_layLinks_1 := dk_seg dksX4_layLinks_0 22 rfl rfl
theorem dksX4_layLinks_2 : cX4_layLinks.data.toList.drop 45 = dktX4_layLinks_2 := dk_seg dksX4_layLinks_1 23 rfl rfl
theorem dksX4_layLinks_3 : cX4_layLinks.data.toList.drop 67 = dktX4_layLinks_3 := dk_seg dksX4_layLinks_2 22 rfl rfl
theorem dksX4_layLinks_4 : cX4_layLinks.data.toList.drop 89 = dktX4_layLinks_4 := dk_seg dksX4_layLinks_3 22 rfl rfl
theorem dksX4_layLinks_5 : cX4_layLinks.data.toList.drop 113 = dktX4_layLinks_5 := dk_seg dksX4_layLinks_4 24 rfl rfl
theorem dksX4_layLinks_6 : cX4_layLinks.data.toList.drop 137 = dktX4_layLinks_6 := dk_seg dksX4_layLinks_5 24 rfl rfl
theorem dksX4_layLinks_7 : cX4_layLinks.data.toList.drop 161 = dktX4_layLinks_7 := dk_seg dksX4_layLinks_6 24 rfl rfl
theorem dksX4_layLinks_8 : cX4_layLinks.data.toList.drop 185 = dktX4_layLinks_8 := dk_seg dksX4_layLinks_7 24 rfl rfl
theorem dX4_layLinks_0 : decode cX4_layLinks 0 = .ok (.iconst 0, 1) := dk_3 (dk_at dksX4_layLinks_0 0 rfl rfl)
theorem dX4_layLinks_1 : decode cX4_layLinks 1 = .ok (.istore_n 2, 1) := dk_61 (dk_at dksX4_layLinks_0 1 rfl rfl)
theorem dX4_layLinks_2 : decode cX4_layLinks 2 = .ok (.iload_n 2, 1) := dk_28 (dk_at dksX4_layLinks_0 2 rfl rfl)
theorem dX4_layLinks_3 : decode cX4_layLinks 3 = .ok (.bipush 8, 2) := dk_16 8 (dk_at dksX4_layLinks_0 3 rfl rfl)
theorem dX4_layLinks_5 : decode cX4_layLinks 5 = .ok (.if_icmp .ge 23, 3) := dk_162 0 23 (dk_at dksX4_layLinks_0 5 rfl rfl)
theorem dX4_layLinks_8 : decode cX4_layLinks 8 = .ok (.aload_n 0, 1) := dk_42 (dk_at dksX4_layLinks_0 8 rfl rfl)
theorem dX4_layLinks_9 : decode cX4_layLinks 9 = .ok (.getfield 135, 3) := dk_180 0 135 (dk_at dksX4_layLinks_0 9 rfl rfl)
theorem dX4_layLinks_12 : decode cX4_layLinks 12 = .ok (.iload_n 2, 1) := dk_28 (dk_at dksX4_layLinks_0 12 rfl rfl)
theorem dX4_layLinks_13 : decode cX4_layLinks 13 = .ok (.iconst 0, 1) := dk_3 (dk_at dksX4_layLinks_0 13 rfl rfl)
theorem dX4_layLinks_14 : decode cX4_layLinks 14 = .ok (.iastore, 1) := dk_79 (dk_at dksX4_layLinks_0 14 rfl rfl)
theorem dX4_layLinks_15 : decode cX4_layLinks 15 = .ok (.aload_n 0, 1) := dk_42 (dk_at dksX4_layLinks_0 15 rfl rfl)
theorem dX4_layLinks_16 : decode cX4_layLinks 16 = .ok (.getfield 138, 3) := dk_180 0 138 (dk_at dksX4_layLinks_0 16 rfl rfl)
theorem dX4_layLinks_19 : decode cX4_layLinks 19 = .ok (.iload_n 2, 1) := dk_28 (dk_at dksX4_layLinks_0 19 rfl rfl)
theorem dX4_layLinks_20 : decode cX4_layLinks 20 = .ok (.iload_n 2, 1) := dk_28 (dk_at dksX4_layLinks_0 20 rfl rfl)
theorem dX4_layLinks_21 : decode cX4_layLinks 21 = .ok (.iastore, 1) := dk_79 (dk_at dksX4_layLinks_0 21 rfl rfl)
theorem dX4_layLinks_22 : decode cX4_layLinks 22 = .ok (.iinc 2 1, 3) := dk_132 2 1 (dk_at dksX4_layLinks_1 0 rfl rfl)
theorem dX4_layLinks_25 : decode cX4_layLinks 25 = .ok (.goto (-23), 3) := dk_167 255 233 (dk_at dksX4_layLinks_1 3 rfl rfl)
theorem dX4_layLinks_28 : decode cX4_layLinks 28 = .ok (.iconst 0, 1) := dk_3 (dk_at dksX4_layLinks_1 6 rfl rfl)
theorem dX4_layLinks_29 : decode cX4_layLinks 29 = .ok (.istore_n 2, 1) := dk_61 (dk_at dksX4_layLinks_1 7 rfl rfl)
theorem dX4_layLinks_30 : decode cX4_layLinks 30 = .ok (.iload_n 2, 1) := dk_28 (dk_at dksX4_layLinks_1 8 rfl rfl)
theorem dX4_layLinks_31 : decode cX4_layLinks 31 = .ok (.aload_n 0, 1) := dk_42 (dk_at dksX4_layLinks_1 9 rfl rfl)
theorem dX4_layLinks_32 : decode cX4_layLinks 32 = .ok (.getfield 377, 3) := dk_180 1 121 (dk_at dksX4_layLinks_1 10 rfl rfl)
theorem dX4_layLinks_35 : decode cX4_layLinks 35 = .ok (.if_icmp .ge 166, 3) := dk_162 0 166 (dk_at dksX4_layLinks_1 13 rfl rfl)
theorem dX4_layLinks_38 : decode cX4_layLinks 38 = .ok (.aload_n 0, 1) := dk_42 (dk_at dksX4_layLinks_1 16 rfl rfl)
theorem dX4_layLinks_39 : decode cX4_layLinks 39 = .ok (.iload_n 2, 1) := dk_28 (dk_at dksX4_layLinks_1 17 rfl rfl)
theorem dX4_layLinks_40 : decode cX4_layLinks 40 = .ok (.iconst 3, 1) := dk_6 (dk_at dksX4_layLinks_1 18 rfl rfl)
theorem dX4_layLinks_41 : decode cX4_layLinks 41 = .ok (.iload_n 1, 1) := dk_27 (dk_at dksX4_layLinks_1 19 rfl rfl)
theorem dX4_layLinks_42 : decode cX4_layLinks 42 = .ok (.invokevirtual 430, 3) := dk_182 1 174 (dk_at dksX4_layLinks_1 20 rfl rfl)
theorem dX4_layLinks_45 : decode cX4_layLinks 45 = .ok (.ifCond .ne 6, 3) := dk_154 0 6 (dk_at dksX4_layLinks_2 0 rfl rfl)
theorem dX4_layLinks_48 : decode cX4_layLinks 48 = .ok (.goto 147, 3) := dk_167 0 147 (dk_at dksX4_layLinks_2 3 rfl rfl)
theorem dX4_layLinks_51 : decode cX4_layLinks 51 = .ok (.aload_n 0, 1) := dk_42 (dk_at dksX4_layLinks_2 6 rfl rfl)
theorem dX4_layLinks_52 : decode cX4_layLinks 52 = .ok (.getfield 108, 3) := dk_180 0 108 (dk_at dksX4_layLinks_2 7 rfl rfl)
theorem dX4_layLinks_55 : decode cX4_layLinks 55 = .ok (.iload_n 2, 1) := dk_28 (dk_at dksX4_layLinks_2 10 rfl rfl)
theorem dX4_layLinks_56 : decode cX4_layLinks 56 = .ok (.iaload, 1) := dk_46 (dk_at dksX4_layLinks_2 11 rfl rfl)
theorem dX4_layLinks_57 : decode cX4_layLinks 57 = .ok (.istore_n 3, 1) := dk_62 (dk_at dksX4_layLinks_2 12 rfl rfl)
theorem dX4_layLinks_58 : decode cX4_layLinks 58 = .ok (.aload_n 0, 1) := dk_42 (dk_at dksX4_layLinks_2 13 rfl rfl)
theorem dX4_layLinks_59 : decode cX4_layLinks 59 = .ok (.getfield 111, 3) := dk_180 0 111 (dk_at dksX4_layLinks_2 14 rfl rfl)
theorem dX4_layLinks_62 : decode cX4_layLinks 62 = .ok (.iload_n 2, 1) := dk_28 (dk_at dksX4_layLinks_2 17 rfl rfl)
theorem dX4_layLinks_63 : decode cX4_layLinks 63 = .ok (.iaload, 1) := dk_46 (dk_at dksX4_layLinks_2 18 rfl rfl)
theorem dX4_layLinks_64 : decode cX4_layLinks 64 = .ok (.istore 4, 2) := dk_54 4 (dk_at dksX4_layLinks_2 19 rfl rfl)
theorem dX4_layLinks_66 : decode cX4_layLinks 66 = .ok (.aload_n 0, 1) := dk_42 (dk_at dksX4_layLinks_2 21 rfl rfl)
theorem dX4_layLinks_67 : decode cX4_layLinks 67 = .ok (.getfield 138, 3) := dk_180 0 138 (dk_at dksX4_layLinks_3 0 rfl rfl)
theorem dX4_layLinks_70 : decode cX4_layLinks 70 = .ok (.iload_n 3, 1) := dk_29 (dk_at dksX4_layLinks_3 3 rfl rfl)
theorem dX4_layLinks_71 : decode cX4_layLinks 71 = .ok (.iaload, 1) := dk_46 (dk_at dksX4_layLinks_3 4 rfl rfl)
theorem dX4_layLinks_72 : decode cX4_layLinks 72 = .ok (.aload_n 0, 1) := dk_42 (dk_at dksX4_layLinks_3 5 rfl rfl)
theorem dX4_layLinks_73 : decode cX4_layLinks 73 = .ok (.getfield 138, 3) := dk_180 0 138 (dk_at dksX4_layLinks_3 6 rfl rfl)
theorem dX4_layLinks_76 : decode cX4_layLinks 76 = .ok (.iload 4, 2) := dk_21 4 (dk_at dksX4_layLinks_3 9 rfl rfl)
theorem dX4_layLinks_78 : decode cX4_layLinks 78 = .ok (.iaload, 1) := dk_46 (dk_at dksX4_layLinks_3 11 rfl rfl)
theorem dX4_layLinks_79 : decode cX4_layLinks 79 = .ok (.if_icmp .ne 28, 3) := dk_160 0 28 (dk_at dksX4_layLinks_3 12 rfl rfl)
theorem dX4_layLinks_82 : decode cX4_layLinks 82 = .ok (.aload_n 0, 1) := dk_42 (dk_at dksX4_layLinks_3 15 rfl rfl)
theorem dX4_layLinks_83 : decode cX4_layLinks 83 = .ok (.getfield 135, 3) := dk_180 0 135 (dk_at dksX4_layLinks_3 16 rfl rfl)
theorem dX4_layLinks_86 : decode cX4_layLinks 86 = .ok (.iload_n 3, 1) := dk_29 (dk_at dksX4_layLinks_3 19 rfl rfl)
theorem dX4_layLinks_87 : decode cX4_layLinks 87 = .ok (.iaload, 1) := dk_46 (dk_at dksX4_layLinks_3 20 rfl rfl)
theorem dX4_layLinks_88 : decode cX4_layLinks 88 = .ok (.aload_n 0, 1) := dk_42 (dk_at dksX4_layLinks_3 21 rfl rfl)
theorem dX4_layLinks_89 : decode cX4_layLinks 89 = .ok (.getfield 135, 3) := dk_180 0 135 (dk_at dksX4_layLinks_4 0 rfl rfl)
theorem dX4_layLinks_92 : decode cX4_layLinks 92 = .ok (.iload 4, 2) := dk_21 4 (dk_at dksX4_layLinks_4 3 rfl rfl)
theorem dX4_layLinks_94 : decode cX4_layLinks 94 = .ok (.iaload, 1) := dk_46 (dk_at dksX4_layLinks_4 5 rfl rfl)
theorem dX4_layLinks_95 : decode cX4_layLinks 95 = .ok (.ixor, 1) := dk_130 (dk_at dksX4_layLinks_4 6 rfl rfl)
theorem dX4_layLinks_96 : decode cX4_layLinks 96 = .ok (.aload_n 0, 1) := dk_42 (dk_at dksX4_layLinks_4 7 rfl rfl)
theorem dX4_layLinks_97 : decode cX4_layLinks 97 = .ok (.getfield 114, 3) := dk_180 0 114 (dk_at dksX4_layLinks_4 8 rfl rfl)
theorem dX4_layLinks_100 : decode cX4_layLinks 100 = .ok (.iload_n 2, 1) := dk_28 (dk_at dksX4_layLinks_4 11 rfl rfl)
theorem dX4_layLinks_101 : decode cX4_layLinks 101 = .ok (.iaload, 1) := dk_46 (dk_at dksX4_layLinks_4 12 rfl rfl)
theorem dX4_layLinks_102 : decode cX4_layLinks 102 = .ok (.if_icmp .eq 93, 3) := dk_159 0 93 (dk_at dksX4_layLinks_4 13 rfl rfl)
theorem dX4_layLinks_105 : decode cX4_layLinks 105 = .ok (.iconst 0, 1) := dk_3 (dk_at dksX4_layLinks_4 16 rfl rfl)
theorem dX4_layLinks_106 : decode cX4_layLinks 106 = .ok (.ireturn, 1) := dk_172 (dk_at dksX4_layLinks_4 17 rfl rfl)
theorem dX4_layLinks_107 : decode cX4_layLinks 107 = .ok (.aload_n 0, 1) := dk_42 (dk_at dksX4_layLinks_4 18 rfl rfl)
theorem dX4_layLinks_108 : decode cX4_layLinks 108 = .ok (.getfield 138, 3) := dk_180 0 138 (dk_at dksX4_layLinks_4 19 rfl rfl)
theorem dX4_layLinks_111 : decode cX4_layLinks 111 = .ok (.iload 4, 2) := dk_21 4 (dk_at dksX4_layLinks_4 22 rfl rfl)
theorem dX4_layLinks_113 : decode cX4_layLinks 113 = .ok (.iaload, 1) := dk_46 (dk_at dksX4_layLinks_5 0 rfl rfl)
theorem dX4_layLinks_114 : decode cX4_layLinks 114 = .ok (.istore 5, 2) := dk_54 5 (dk_at dksX4_layLinks_5 1 rfl rfl)
theorem dX4_layLinks_116 : decode cX4_layLinks 116 = .ok (.aload_n 0, 1) := dk_42 (dk_at dksX4_layLinks_5 3 rfl rfl)
theorem dX4_layLinks_117 : decode cX4_layLinks 117 = .ok (.getfield 135, 3) := dk_180 0 135 (dk_at dksX4_layLinks_5 4 rfl rfl)
theorem dX4_layLinks_120 : decode cX4_layLinks 120 = .ok (.iload_n 3, 1) := dk_29 (dk_at dksX4_layLinks_5 7 rfl rfl)
theorem dX4_layLinks_121 : decode cX4_layLinks 121 = .ok (.iaload, 1) := dk_46 (dk_at dksX4_layLinks_5 8 rfl rfl)
theorem dX4_layLinks_122 : decode cX4_layLinks 122 = .ok (.aload_n 0, 1) := dk_42 (dk_at dksX4_layLinks_5 9 rfl rfl)
theorem dX4_layLinks_123 : decode cX4_layLinks 123 = .ok (.getfield 135, 3) := dk_180 0 135 (dk_at dksX4_layLinks_5 10 rfl rfl)
theorem dX4_layLinks_126 : decode cX4_layLinks 126 = .ok (.iload 4, 2) := dk_21 4 (dk_at dksX4_layLinks_5 13 rfl rfl)
theorem dX4_layLinks_128 : decode cX4_layLinks 128 = .ok (.iaload, 1) := dk_46 (dk_at dksX4_layLinks_5 15 rfl rfl)
theorem dX4_layLinks_129 : decode cX4_layLinks 129 = .ok (.ixor, 1) := dk_130 (dk_at dksX4_layLinks_5 16 rfl rfl)
theorem dX4_layLinks_130 : decode cX4_layLinks 130 = .ok (.aload_n 0, 1) := dk_42 (dk_at dksX4_layLinks_5 17 rfl rfl)
theorem dX4_layLinks_131 : decode cX4_layLinks 131 = .ok (.getfield 114, 3) := dk_180 0 114 (dk_at dksX4_layLinks_5 18 rfl rfl)
theorem dX4_layLinks_134 : decode cX4_layLinks 134 = .ok (.iload_n 2, 1) := dk_28 (dk_at dksX4_layLinks_5 21 rfl rfl)
theorem dX4_layLinks_135 : decode cX4_layLinks 135 = .ok (.iaload, 1) := dk_46 (dk_at dksX4_layLinks_5 22 rfl rfl)
theorem dX4_layLinks_136 : decode cX4_layLinks 136 = .ok (.ixor, 1) := dk_130 (dk_at dksX4_layLinks_5 23 rfl rfl)
theorem dX4_layLinks_137 : decode cX4_layLinks 137 = .ok (.istore 6, 2) := dk_54 6 (dk_at dksX4_layLinks_6 0 rfl rfl)
theorem dX4_layLinks_139 : decode cX4_layLinks 139 = .ok (.iconst 0, 1) := dk_3 (dk_at dksX4_layLinks_6 2 rfl rfl)
theorem dX4_layLinks_140 : decode cX4_layLinks 140 = .ok (.istore 7, 2) := dk_54 7 (dk_at dksX4_layLinks_6 3 rfl rfl)
theorem dX4_layLinks_142 : decode cX4_layLinks 142 = .ok (.iload 7, 2) := dk_21 7 (dk_at dksX4_layLinks_6 5 rfl rfl)
theorem dX4_layLinks_144 : decode cX4_layLinks 144 = .ok (.bipush 8, 2) := dk_16 8 (dk_at dksX4_layLinks_6 7 rfl rfl)
theorem dX4_layLinks_146 : decode cX4_layLinks 146 = .ok (.if_icmp .ge 49, 3) := dk_162 0 49 (dk_at dksX4_layLinks_6 9 rfl rfl)
theorem dX4_layLinks_149 : decode cX4_layLinks 149 = .ok (.aload_n 0, 1) := dk_42 (dk_at dksX4_layLinks_6 12 rfl rfl)
theorem dX4_layLinks_150 : decode cX4_layLinks 150 = .ok (.getfield 138, 3) := dk_180 0 138 (dk_at dksX4_layLinks_6 13 rfl rfl)
theorem dX4_layLinks_153 : decode cX4_layLinks 153 = .ok (.iload 7, 2) := dk_21 7 (dk_at dksX4_layLinks_6 16 rfl rfl)
theorem dX4_layLinks_155 : decode cX4_layLinks 155 = .ok (.iaload, 1) := dk_46 (dk_at dksX4_layLinks_6 18 rfl rfl)
theorem dX4_layLinks_156 : decode cX4_layLinks 156 = .ok (.iload 5, 2) := dk_21 5 (dk_at dksX4_layLinks_6 19 rfl rfl)
theorem dX4_layLinks_158 : decode cX4_layLinks 158 = .ok (.if_icmp .eq 6, 3) := dk_159 0 6 (dk_at dksX4_layLinks_6 21 rfl rfl)
theorem dX4_layLinks_161 : decode cX4_layLinks 161 = .ok (.goto 28, 3) := dk_167 0 28 (dk_at dksX4_layLinks_7 0 rfl rfl)
theorem dX4_layLinks_164 : decode cX4_layLinks 164 = .ok (.aload_n 0, 1) := dk_42 (dk_at dksX4_layLinks_7 3 rfl rfl)
theorem dX4_layLinks_165 : decode cX4_layLinks 165 = .ok (.getfield 138, 3) := dk_180 0 138 (dk_at dksX4_layLinks_7 4 rfl rfl)
theorem dX4_layLinks_168 : decode cX4_layLinks 168 = .ok (.iload 7, 2) := dk_21 7 (dk_at dksX4_layLinks_7 7 rfl rfl)
theorem dX4_layLinks_170 : decode cX4_layLinks 170 = .ok (.aload_n 0, 1) := dk_42 (dk_at dksX4_layLinks_7 9 rfl rfl)
theorem dX4_layLinks_171 : decode cX4_layLinks 171 = .ok (.getfield 138, 3) := dk_180 0 138 (dk_at dksX4_layLinks_7 10 rfl rfl)
theorem dX4_layLinks_174 : decode cX4_layLinks 174 = .ok (.iload_n 3, 1) := dk_29 (dk_at dksX4_layLinks_7 13 rfl rfl)
theorem dX4_layLinks_175 : decode cX4_layLinks 175 = .ok (.iaload, 1) := dk_46 (dk_at dksX4_layLinks_7 14 rfl rfl)
theorem dX4_layLinks_176 : decode cX4_layLinks 176 = .ok (.iastore, 1) := dk_79 (dk_at dksX4_layLinks_7 15 rfl rfl)
theorem dX4_layLinks_177 : decode cX4_layLinks 177 = .ok (.aload_n 0, 1) := dk_42 (dk_at dksX4_layLinks_7 16 rfl rfl)
theorem dX4_layLinks_178 : decode cX4_layLinks 178 = .ok (.getfield 135, 3) := dk_180 0 135 (dk_at dksX4_layLinks_7 17 rfl rfl)
theorem dX4_layLinks_181 : decode cX4_layLinks 181 = .ok (.iload 7, 2) := dk_21 7 (dk_at dksX4_layLinks_7 20 rfl rfl)
theorem dX4_layLinks_183 : decode cX4_layLinks 183 = .ok (.dup2, 1) := dk_92 (dk_at dksX4_layLinks_7 22 rfl rfl)
theorem dX4_layLinks_184 : decode cX4_layLinks 184 = .ok (.iaload, 1) := dk_46 (dk_at dksX4_layLinks_7 23 rfl rfl)
theorem dX4_layLinks_185 : decode cX4_layLinks 185 = .ok (.iload 6, 2) := dk_21 6 (dk_at dksX4_layLinks_8 0 rfl rfl)
theorem dX4_layLinks_187 : decode cX4_layLinks 187 = .ok (.ixor, 1) := dk_130 (dk_at dksX4_layLinks_8 2 rfl rfl)
theorem dX4_layLinks_188 : decode cX4_layLinks 188 = .ok (.iastore, 1) := dk_79 (dk_at dksX4_layLinks_8 3 rfl rfl)
theorem dX4_layLinks_189 : decode cX4_layLinks 189 = .ok (.iinc 7 1, 3) := dk_132 7 1 (dk_at dksX4_layLinks_8 4 rfl rfl)
theorem dX4_layLinks_192 : decode cX4_layLinks 192 = .ok (.goto (-50), 3) := dk_167 255 206 (dk_at dksX4_layLinks_8 7 rfl rfl)
theorem dX4_layLinks_195 : decode cX4_layLinks 195 = .ok (.iinc 2 1, 3) := dk_132 2 1 (dk_at dksX4_layLinks_8 10 rfl rfl)
theorem dX4_layLinks_198 : decode cX4_layLinks 198 = .ok (.goto (-168), 3) := dk_167 255 88 (dk_at dksX4_layLinks_8 13 rfl rfl)
theorem dX4_layLinks_201 : decode cX4_layLinks 201 = .ok (.iconst 1, 1) := dk_4 (dk_at dksX4_layLinks_8 16 rfl rfl)
theorem dX4_layLinks_202 : decode cX4_layLinks 202 = .ok (.ireturn, 1) := dk_172 (dk_at dksX4_layLinks_8 17 rfl rfl)
abbrev cX4_image : ByteArray := prog_27_method_107_code
def yX4_image : MethodName := ⟨RX4, "image", "(I)I"⟩
def dkwX4_image_2 : List UInt8 := [27, 4, 84, 42, 180, 0, 77, 17, 0, 216, 46, 172]
abbrev dktX4_image_2 : List UInt8 := dkwX4_image_2 ++ []
def dkwX4_image_1 : List UInt8 := [17, 0, 221, 27, 104, 28, 96, 42, 180, 0, 77, 28, 46, 79, 132, 2, 1, 167, 255, 228, 42, 180, 0, 144]
abbrev dktX4_image_1 : List UInt8 := dkwX4_image_1 ++ dktX4_image_2
def dkwX4_image_0 : List UInt8 := [27, 3, 5, 184, 1, 89, 154, 0, 5, 2, 172, 3, 61, 28, 17, 0, 221, 162, 0, 27, 42, 180, 0, 141]
abbrev dktX4_image_0 : List UInt8 := dkwX4_image_0 ++ dktX4_image_1
theorem dksX4_image_0 : cX4_image.data.toList.drop 0 = dktX4_image_0 := by decide +kernel
theorem dksX4_image_1 : cX4_image.data.toList.drop 24 = dktX4_image_1 := dk_seg dksX4_image_0 24 rfl rfl
theorem dksX4_image_2 : cX4_image.data.toList.drop 48 = dktX4_image_2 := dk_seg dksX4_image_1 24 rfl rfl
theorem dX4_image_0 : decode cX4_image 0 = .ok (.iload_n 1, 1) := dk_27 (dk_at dksX4_image_0 0 rfl rfl)
theorem dX4_image_1 : decode cX4_image 1 = .ok (.iconst 0, 1) := dk_3 (dk_at dksX4_image_0 1 rfl rfl)
theorem dX4_image_2 : decode cX4_image 2 = .ok (.iconst 2, 1) := dk_5 (dk_at dksX4_image_0 2 rfl rfl)
theorem dX4_image_3 : decode cX4_image 3 = .ok (.invokestatic 345, 3) := dk_184 1 89 (dk_at dksX4_image_0 3 rfl rfl)
theorem dX4_image_6 : decode cX4_image 6 = .ok (.ifCond .ne 5, 3) := dk_154 0 5 (dk_at dksX4_image_0 6 rfl rfl)
theorem dX4_image_9 : decode cX4_image 9 = .ok (.iconst (-1), 1) := dk_2 (dk_at dksX4_image_0 9 rfl rfl)
theorem dX4_image_10 : decode cX4_image 10 = .ok (.ireturn, 1) := dk_172 (dk_at dksX4_image_0 10 rfl rfl)
theorem dX4_image_11 : decode cX4_image 11 = .ok (.iconst 0, 1) := dk_3 (dk_at dksX4_image_0 11 rfl rfl)
theorem dX4_image_12 : decode cX4_image 12 = .ok (.istore_n 2, 1) := dk_61 (dk_at dksX4_image_0 12 rfl rfl)
theorem dX4_image_13 : decode cX4_image 13 = .ok (.iload_n 2, 1) := dk_28 (dk_at dksX4_image_0 13 rfl rfl)
theorem dX4_image_14 : decode cX4_image 14 = .ok (.sipush 221, 3) := dk_17 0 221 (dk_at dksX4_image_0 14 rfl rfl)
theorem dX4_image_17 : decode cX4_image 17 = .ok (.if_icmp .ge 27, 3) := dk_162 0 27 (dk_at dksX4_image_0 17 rfl rfl)
theorem dX4_image_20 : decode cX4_image 20 = .ok (.aload_n 0, 1) := dk_42 (dk_at dksX4_image_0 20 rfl rfl)
theorem dX4_image_21 : decode cX4_image 21 = .ok (.getfield 141, 3) := dk_180 0 141 (dk_at dksX4_image_0 21 rfl rfl)
theorem dX4_image_24 : decode cX4_image 24 = .ok (.sipush 221, 3) := dk_17 0 221 (dk_at dksX4_image_1 0 rfl rfl)
theorem dX4_image_27 : decode cX4_image 27 = .ok (.iload_n 1, 1) := dk_27 (dk_at dksX4_image_1 3 rfl rfl)
theorem dX4_image_28 : decode cX4_image 28 = .ok (.imul, 1) := dk_104 (dk_at dksX4_image_1 4 rfl rfl)
theorem dX4_image_29 : decode cX4_image 29 = .ok (.iload_n 2, 1) := dk_28 (dk_at dksX4_image_1 5 rfl rfl)
theorem dX4_image_30 : decode cX4_image 30 = .ok (.iadd, 1) := dk_96 (dk_at dksX4_image_1 6 rfl rfl)
theorem dX4_image_31 : decode cX4_image 31 = .ok (.aload_n 0, 1) := dk_42 (dk_at dksX4_image_1 7 rfl rfl)
theorem dX4_image_32 : decode cX4_image 32 = .ok (.getfield 77, 3) := dk_180 0 77 (dk_at dksX4_image_1 8 rfl rfl)
theorem dX4_image_35 : decode cX4_image 35 = .ok (.iload_n 2, 1) := dk_28 (dk_at dksX4_image_1 11 rfl rfl)
theorem dX4_image_36 : decode cX4_image 36 = .ok (.iaload, 1) := dk_46 (dk_at dksX4_image_1 12 rfl rfl)
theorem dX4_image_37 : decode cX4_image 37 = .ok (.iastore, 1) := dk_79 (dk_at dksX4_image_1 13 rfl rfl)
theorem dX4_image_38 : decode cX4_image 38 = .ok (.iinc 2 1, 3) := dk_132 2 1 (dk_at dksX4_image_1 14 rfl rfl)
theorem dX4_image_41 : decode cX4_image 41 = .ok (.goto (-28), 3) := dk_167 255 228 (dk_at dksX4_image_1 17 rfl rfl)
theorem dX4_image_44 : decode cX4_image 44 = .ok (.aload_n 0, 1) := dk_42 (dk_at dksX4_image_1 20 rfl rfl)
theorem dX4_image_45 : decode cX4_image 45 = .ok (.getfield 144, 3) := dk_180 0 144 (dk_at dksX4_image_1 21 rfl rfl)
theorem dX4_image_48 : decode cX4_image 48 = .ok (.iload_n 1, 1) := dk_27 (dk_at dksX4_image_2 0 rfl rfl)
theorem dX4_image_49 : decode cX4_image 49 = .ok (.iconst 1, 1) := dk_4 (dk_at dksX4_image_2 1 rfl rfl)
theorem dX4_image_50 : decode cX4_image 50 = .ok (.bastore, 1) := dk_84 (dk_at dksX4_image_2 2 rfl rfl)
theorem dX4_image_51 : decode cX4_image 51 = .ok (.aload_n 0, 1) := dk_42 (dk_at dksX4_image_2 3 rfl rfl)
theorem dX4_image_52 : decode cX4_image 52 = .ok (.getfield 77, 3) := dk_180 0 77 (dk_at dksX4_image_2 4 rfl rfl)
theorem dX4_image_55 : decode cX4_image 55 = .ok (.sipush 216, 3) := dk_17 0 216 (dk_at dksX4_image_2 7 rfl rfl)
theorem dX4_image_58 : decode cX4_image 58 = .ok (.iaload, 1) := dk_46 (dk_at dksX4_image_2 10 rfl rfl)
theorem dX4_image_59 : decode cX4_image 59 = .ok (.ireturn, 1) := dk_172 (dk_at dksX4_image_2 11 rfl rfl)
abbrev cX4_back : ByteArray := prog_27_method_108_code
def yX4_back : MethodName := ⟨RX4, "back", "(I)I"⟩
def dkwX4_back_3 : List UInt8 := [172]
abbrev dktX4_back_3 : List UInt8 := dkwX4_back_3 ++ []
def dkwX4_back_2 : List UInt8 := [132, 2, 1, 167, 255, 228, 42, 3, 181, 1, 115, 42, 3, 181, 1, 118, 42, 180, 0, 77, 17, 0, 216, 46]
abbrev dktX4_back_2 : List UInt8 := dkwX4_back_2 ++ dktX4_back_3
def dkwX4_back_1 : List UInt8 := [17, 0, 221, 162, 0, 27, 42, 180, 0, 77, 28, 42, 180, 0, 141, 17, 0, 221, 27, 104, 28, 96, 46, 79]
abbrev dktX4_back_1 : List UInt8 := dkwX4_back_1 ++ dktX4_back_2
def dkwX4_back_0 : List UInt8 := [27, 3, 5, 184, 1, 89, 153, 0, 12, 42, 180, 0, 144, 27, 51, 154, 0, 5, 2, 172, 3, 61, 28]
abbrev dktX4_back_0 : List UInt8 := dkwX4_back_0 ++ dktX4_back_1
theorem dksX4_back_0 : cX4_back.data.toList.drop 0 = dktX4_back_0 := by decide +kernel
theorem dksX4_back_1 : cX4_back.data.toList.drop 23 = dktX4_back_1 := dk_seg dksX4_back_0 23 rfl rfl
theorem dksX4_back_2 : cX4_back.data.toList.drop 47 = dktX4_back_2 := dk_seg dksX4_back_1 24 rfl rfl
theorem dksX4_back_3 : cX4_back.data.toList.drop 71 = dktX4_back_3 := dk_seg dksX4_back_2 24 rfl rfl
theorem dX4_back_0 : decode cX4_back 0 = .ok (.iload_n 1, 1) := dk_27 (dk_at dksX4_back_0 0 rfl rfl)
theorem dX4_back_1 : decode cX4_back 1 = .ok (.iconst 0, 1) := dk_3 (dk_at dksX4_back_0 1 rfl rfl)
theorem dX4_back_2 : decode cX4_back 2 = .ok (.iconst 2, 1) := dk_5 (dk_at dksX4_back_0 2 rfl rfl)
theorem dX4_back_3 : decode cX4_back 3 = .ok (.invokestatic 345, 3) := dk_184 1 89 (dk_at dksX4_back_0 3 rfl rfl)
theorem dX4_back_6 : decode cX4_back 6 = .ok (.ifCond .eq 12, 3) := dk_153 0 12 (dk_at dksX4_back_0 6 rfl rfl)
theorem dX4_back_9 : decode cX4_back 9 = .ok (.aload_n 0, 1) := dk_42 (dk_at dksX4_back_0 9 rfl rfl)
theorem dX4_back_10 : decode cX4_back 10 = .ok (.getfield 144, 3) := dk_180 0 144 (dk_at dksX4_back_0 10 rfl rfl)
theorem dX4_back_13 : decode cX4_back 13 = .ok (.iload_n 1, 1) := dk_27 (dk_at dksX4_back_0 13 rfl rfl)
theorem dX4_back_14 : decode cX4_back 14 = .ok (.baload, 1) := dk_51 (dk_at dksX4_back_0 14 rfl rfl)
theorem dX4_back_15 : decode cX4_back 15 = .ok (.ifCond .ne 5, 3) := dk_154 0 5 (dk_at dksX4_back_0 15 rfl rfl)
theorem dX4_back_18 : decode cX4_back 18 = .ok (.iconst (-1), 1) := dk_2 (dk_at dksX4_back_0 18 rfl rfl)
theorem dX4_back_19 : decode cX4_back 19 = .ok (.ireturn, 1) := dk_172 (dk_at dksX4_back_0 19 rfl rfl)
theorem dX4_back_20 : decode cX4_back 20 = .ok (.iconst 0, 1) := dk_3 (dk_at dksX4_back_0 20 rfl rfl)
theorem dX4_back_21 : decode cX4_back 21 = .ok (.istore_n 2, 1) := dk_61 (dk_at dksX4_back_0 21 rfl rfl)
theorem dX4_back_22 : decode cX4_back 22 = .ok (.iload_n 2, 1) := dk_28 (dk_at dksX4_back_0 22 rfl rfl)
theorem dX4_back_23 : decode cX4_back 23 = .ok (.sipush 221, 3) := dk_17 0 221 (dk_at dksX4_back_1 0 rfl rfl)
theorem dX4_back_26 : decode cX4_back 26 = .ok (.if_icmp .ge 27, 3) := dk_162 0 27 (dk_at dksX4_back_1 3 rfl rfl)
theorem dX4_back_29 : decode cX4_back 29 = .ok (.aload_n 0, 1) := dk_42 (dk_at dksX4_back_1 6 rfl rfl)
theorem dX4_back_30 : decode cX4_back 30 = .ok (.getfield 77, 3) := dk_180 0 77 (dk_at dksX4_back_1 7 rfl rfl)
theorem dX4_back_33 : decode cX4_back 33 = .ok (.iload_n 2, 1) := dk_28 (dk_at dksX4_back_1 10 rfl rfl)
theorem dX4_back_34 : decode cX4_back 34 = .ok (.aload_n 0, 1) := dk_42 (dk_at dksX4_back_1 11 rfl rfl)
theorem dX4_back_35 : decode cX4_back 35 = .ok (.getfield 141, 3) := dk_180 0 141 (dk_at dksX4_back_1 12 rfl rfl)
theorem dX4_back_38 : decode cX4_back 38 = .ok (.sipush 221, 3) := dk_17 0 221 (dk_at dksX4_back_1 15 rfl rfl)
theorem dX4_back_41 : decode cX4_back 41 = .ok (.iload_n 1, 1) := dk_27 (dk_at dksX4_back_1 18 rfl rfl)
theorem dX4_back_42 : decode cX4_back 42 = .ok (.imul, 1) := dk_104 (dk_at dksX4_back_1 19 rfl rfl)
theorem dX4_back_43 : decode cX4_back 43 = .ok (.iload_n 2, 1) := dk_28 (dk_at dksX4_back_1 20 rfl rfl)
theorem dX4_back_44 : decode cX4_back 44 = .ok (.iadd, 1) := dk_96 (dk_at dksX4_back_1 21 rfl rfl)
theorem dX4_back_45 : decode cX4_back 45 = .ok (.iaload, 1) := dk_46 (dk_at dksX4_back_1 22 rfl rfl)
theorem dX4_back_46 : decode cX4_back 46 = .ok (.iastore, 1) := dk_79 (dk_at dksX4_back_1 23 rfl rfl)
theorem dX4_back_47 : decode cX4_back 47 = .ok (.iinc 2 1, 3) := dk_132 2 1 (dk_at dksX4_back_2 0 rfl rfl)
theorem dX4_back_50 : decode cX4_back 50 = .ok (.goto (-28), 3) := dk_167 255 228 (dk_at dksX4_back_2 3 rfl rfl)
theorem dX4_back_53 : decode cX4_back 53 = .ok (.aload_n 0, 1) := dk_42 (dk_at dksX4_back_2 6 rfl rfl)
theorem dX4_back_54 : decode cX4_back 54 = .ok (.iconst 0, 1) := dk_3 (dk_at dksX4_back_2 7 rfl rfl)
theorem dX4_back_55 : decode cX4_back 55 = .ok (.putfield 371, 3) := dk_181 1 115 (dk_at dksX4_back_2 8 rfl rfl)
theorem dX4_back_58 : decode cX4_back 58 = .ok (.aload_n 0, 1) := dk_42 (dk_at dksX4_back_2 11 rfl rfl)
theorem dX4_back_59 : decode cX4_back 59 = .ok (.iconst 0, 1) := dk_3 (dk_at dksX4_back_2 12 rfl rfl)
theorem dX4_back_60 : decode cX4_back 60 = .ok (.putfield 374, 3) := dk_181 1 118 (dk_at dksX4_back_2 13 rfl rfl)
theorem dX4_back_63 : decode cX4_back 63 = .ok (.aload_n 0, 1) := dk_42 (dk_at dksX4_back_2 16 rfl rfl)
theorem dX4_back_64 : decode cX4_back 64 = .ok (.getfield 77, 3) := dk_180 0 77 (dk_at dksX4_back_2 17 rfl rfl)
theorem dX4_back_67 : decode cX4_back 67 = .ok (.sipush 216, 3) := dk_17 0 216 (dk_at dksX4_back_2 20 rfl rfl)
theorem dX4_back_70 : decode cX4_back 70 = .ok (.iaload, 1) := dk_46 (dk_at dksX4_back_2 23 rfl rfl)
theorem dX4_back_71 : decode cX4_back 71 = .ok (.ireturn, 1) := dk_172 (dk_at dksX4_back_3 0 rfl rfl)
abbrev cX4_about : ByteArray := prog_27_method_109_code
def yX4_about : MethodName := ⟨RX4, "about", "(I)I"⟩
def dkwX4_about_6 : List UInt8 := [172, 42, 180, 1, 124, 172, 2, 172]
abbrev dktX4_about_6 : List UInt8 := dkwX4_about_6 ++ []
def dkwX4_about_5 : List UInt8 := [42, 180, 1, 121, 172, 42, 180, 1, 164, 172, 42, 180, 0, 247, 172, 42, 180, 0, 30, 42, 180, 0, 250, 46]
abbrev dktX4_about_5 : List UInt8 := dkwX4_about_5 ++ dktX4_about_6
def dkwX4_about_4 : List UInt8 := [17, 0, 219, 46, 172, 42, 180, 0, 77, 17, 0, 220, 46, 172, 42, 180, 1, 115, 172, 42, 180, 1, 118, 172]
abbrev dktX4_about_4 : List UInt8 := dkwX4_about_4 ++ dktX4_about_5
def dkwX4_about_3 : List UInt8 := [42, 180, 0, 77, 17, 0, 217, 46, 172, 42, 180, 0, 77, 17, 0, 218, 46, 172, 42, 180, 0, 77]
abbrev dktX4_about_3 : List UInt8 := dkwX4_about_3 ++ dktX4_about_4
def dkwX4_about_2 : List UInt8 := [42, 180, 0, 27, 42, 180, 0, 250, 46, 172, 42, 182, 1, 86, 172, 42, 180, 0, 77, 17, 0, 216, 46, 172]
abbrev dktX4_about_2 : List UInt8 := dkwX4_about_2 ++ dktX4_about_3
def dkwX4_about_1 : List UInt8 := [170, 0, 0, 0, 0, 0, 171, 0, 0, 0, 0, 0, 0, 0, 13, 0, 0, 0, 71, 0, 0, 0, 81, 0, 0, 0, 86, 0, 0, 0, 95, 0, 0, 0, 104, 0, 0, 0, 113, 0, 0, 0, 122, 0, 0, 0, 131, 0, 0, 0, 136, 0, 0, 0, 141, 0, 0, 0, 146, 0, 0, 0, 151, 0, 0, 0, 156, 0, 0, 0, 166]
abbrev dktX4_about_1 : List UInt8 := dkwX4_about_1 ++ dktX4_about_2
def dkwX4_about_0 : List UInt8 := [27]
abbrev dktX4_about_0 : List UInt8 := dkwX4_about_0 ++ dktX4_about_1
theorem dksX4_about_0 : cX4_about.data.toList.drop 0 = dktX4_about_0 := by decide +kernel
theorem dksX4_about_1 : cX4_about.data.toList.drop 1 = dktX4_about_1 := dk_seg dksX4_about_0 1 rfl rfl
theorem dksX4_about_2 : cX4_about.data.toList.drop 72 = dktX4_about_2 := dk_seg dksX4_about_1 71 rfl rfl
theorem dksX4_about_3 : cX4_about.data.toList.drop 96 = dktX4_about_3 := dk_seg dksX4_about_2 24 rfl rfl
theorem dksX4_about_4 : cX4_about.data.toList.drop 118 = dktX4_about_4 := dk_seg dksX4_about_3 22 rfl rfl
theorem dksX4_about_5 : cX4_about.data.toList.drop 142 = dktX4_about_5 := dk_seg dksX4_about_4 24 rfl rfl
theorem dksX4_about_6 : cX4_about.data.toList.drop 166 = dktX4_about_6 := dk_seg dksX4_about_5 24 rfl rfl
theorem dX4_about_0 : decode cX4_about 0 = .ok (.iload_n 1, 1) := dk_27 (dk_at dksX4_about_0 0 rfl rfl)
theorem dX4_about_1 : decode cX4_about 1 = .ok (.tableswitch 171 0 13 #[71, 81, 86, 95, 104, 113, 122, 131, 136, 141, 146, 151, 156, 166], 71) := by decide +kernel
theorem dX4_about_72 : decode cX4_about 72 = .ok (.aload_n 0, 1) := dk_42 (dk_at dksX4_about_2 0 rfl rfl)
theorem dX4_about_73 : decode cX4_about 73 = .ok (.getfield 27, 3) := dk_180 0 27 (dk_at dksX4_about_2 1 rfl rfl)
theorem dX4_about_76 : decode cX4_about 76 = .ok (.aload_n 0, 1) := dk_42 (dk_at dksX4_about_2 4 rfl rfl)
theorem dX4_about_77 : decode cX4_about 77 = .ok (.getfield 250, 3) := dk_180 0 250 (dk_at dksX4_about_2 5 rfl rfl)
theorem dX4_about_80 : decode cX4_about 80 = .ok (.iaload, 1) := dk_46 (dk_at dksX4_about_2 8 rfl rfl)
theorem dX4_about_81 : decode cX4_about 81 = .ok (.ireturn, 1) := dk_172 (dk_at dksX4_about_2 9 rfl rfl)
theorem dX4_about_82 : decode cX4_about 82 = .ok (.aload_n 0, 1) := dk_42 (dk_at dksX4_about_2 10 rfl rfl)
theorem dX4_about_83 : decode cX4_about 83 = .ok (.invokevirtual 342, 3) := dk_182 1 86 (dk_at dksX4_about_2 11 rfl rfl)
theorem dX4_about_86 : decode cX4_about 86 = .ok (.ireturn, 1) := dk_172 (dk_at dksX4_about_2 14 rfl rfl)
theorem dX4_about_87 : decode cX4_about 87 = .ok (.aload_n 0, 1) := dk_42 (dk_at dksX4_about_2 15 rfl rfl)
theorem dX4_about_88 : decode cX4_about 88 = .ok (.getfield 77, 3) := dk_180 0 77 (dk_at dksX4_about_2 16 rfl rfl)
theorem dX4_about_91 : decode cX4_about 91 = .ok (.sipush 216, 3) := dk_17 0 216 (dk_at dksX4_about_2 19 rfl rfl)
theorem dX4_about_94 : decode cX4_about 94 = .ok (.iaload, 1) := dk_46 (dk_at dksX4_about_2 22 rfl rfl)
theorem dX4_about_95 : decode cX4_about 95 = .ok (.ireturn, 1) := dk_172 (dk_at dksX4_about_2 23 rfl rfl)
theorem dX4_about_96 : decode cX4_about 96 = .ok (.aload_n 0, 1) := dk_42 (dk_at dksX4_about_3 0 rfl rfl)
theorem dX4_about_97 : decode cX4_about 97 = .ok (.getfield 77, 3) := dk_180 0 77 (dk_at dksX4_about_3 1 rfl rfl)
theorem dX4_about_100 : decode cX4_about 100 = .ok (.sipush 217, 3) := dk_17 0 217 (dk_at dksX4_about_3 4 rfl rfl)
theorem dX4_about_103 : decode cX4_about 103 = .ok (.iaload, 1) := dk_46 (dk_at dksX4_about_3 7 rfl rfl)
theorem dX4_about_104 : decode cX4_about 104 = .ok (.ireturn, 1) := dk_172 (dk_at dksX4_about_3 8 rfl rfl)
theorem dX4_about_105 : decode cX4_about 105 = .ok (.aload_n 0, 1) := dk_42 (dk_at dksX4_about_3 9 rfl rfl)
theorem dX4_about_106 : decode cX4_about 106 = .ok (.getfield 77, 3) := dk_180 0 77 (dk_at dksX4_about_3 10 rfl rfl)
theorem dX4_about_109 : decode cX4_about 109 = .ok (.sipush 218, 3) := dk_17 0 218 (dk_at dksX4_about_3 13 rfl rfl)
theorem dX4_about_112 : decode cX4_about 112 = .ok (.iaload, 1) := dk_46 (dk_at dksX4_about_3 16 rfl rfl)
theorem dX4_about_113 : decode cX4_about 113 = .ok (.ireturn, 1) := dk_172 (dk_at dksX4_about_3 17 rfl rfl)
theorem dX4_about_114 : decode cX4_about 114 = .ok (.aload_n 0, 1) := dk_42 (dk_at dksX4_about_3 18 rfl rfl)
theorem dX4_about_115 : decode cX4_about 115 = .ok (.getfield 77, 3) := dk_180 0 77 (dk_at dksX4_about_3 19 rfl rfl)
theorem dX4_about_118 : decode cX4_about 118 = .ok (.sipush 219, 3) := dk_17 0 219 (dk_at dksX4_about_4 0 rfl rfl)
theorem dX4_about_121 : decode cX4_about 121 = .ok (.iaload, 1) := dk_46 (dk_at dksX4_about_4 3 rfl rfl)
theorem dX4_about_122 : decode cX4_about 122 = .ok (.ireturn, 1) := dk_172 (dk_at dksX4_about_4 4 rfl rfl)
theorem dX4_about_123 : decode cX4_about 123 = .ok (.aload_n 0, 1) := dk_42 (dk_at dksX4_about_4 5 rfl rfl)
theorem dX4_about_124 : decode cX4_about 124 = .ok (.getfield 77, 3) := dk_180 0 77 (dk_at dksX4_about_4 6 rfl rfl)
theorem dX4_about_127 : decode cX4_about 127 = .ok (.sipush 220, 3) := dk_17 0 220 (dk_at dksX4_about_4 9 rfl rfl)
theorem dX4_about_130 : decode cX4_about 130 = .ok (.iaload, 1) := dk_46 (dk_at dksX4_about_4 12 rfl rfl)
theorem dX4_about_131 : decode cX4_about 131 = .ok (.ireturn, 1) := dk_172 (dk_at dksX4_about_4 13 rfl rfl)
theorem dX4_about_132 : decode cX4_about 132 = .ok (.aload_n 0, 1) := dk_42 (dk_at dksX4_about_4 14 rfl rfl)
theorem dX4_about_133 : decode cX4_about 133 = .ok (.getfield 371, 3) := dk_180 1 115 (dk_at dksX4_about_4 15 rfl rfl)
theorem dX4_about_136 : decode cX4_about 136 = .ok (.ireturn, 1) := dk_172 (dk_at dksX4_about_4 18 rfl rfl)
theorem dX4_about_137 : decode cX4_about 137 = .ok (.aload_n 0, 1) := dk_42 (dk_at dksX4_about_4 19 rfl rfl)
theorem dX4_about_138 : decode cX4_about 138 = .ok (.getfield 374, 3) := dk_180 1 118 (dk_at dksX4_about_4 20 rfl rfl)
theorem dX4_about_141 : decode cX4_about 141 = .ok (.ireturn, 1) := dk_172 (dk_at dksX4_about_4 23 rfl rfl)
theorem dX4_about_142 : decode cX4_about 142 = .ok (.aload_n 0, 1) := dk_42 (dk_at dksX4_about_5 0 rfl rfl)
theorem dX4_about_143 : decode cX4_about 143 = .ok (.getfield 377, 3) := dk_180 1 121 (dk_at dksX4_about_5 1 rfl rfl)
theorem dX4_about_146 : decode cX4_about 146 = .ok (.ireturn, 1) := dk_172 (dk_at dksX4_about_5 4 rfl rfl)
theorem dX4_about_147 : decode cX4_about 147 = .ok (.aload_n 0, 1) := dk_42 (dk_at dksX4_about_5 5 rfl rfl)
theorem dX4_about_148 : decode cX4_about 148 = .ok (.getfield 420, 3) := dk_180 1 164 (dk_at dksX4_about_5 6 rfl rfl)
theorem dX4_about_151 : decode cX4_about 151 = .ok (.ireturn, 1) := dk_172 (dk_at dksX4_about_5 9 rfl rfl)
theorem dX4_about_152 : decode cX4_about 152 = .ok (.aload_n 0, 1) := dk_42 (dk_at dksX4_about_5 10 rfl rfl)
theorem dX4_about_153 : decode cX4_about 153 = .ok (.getfield 247, 3) := dk_180 0 247 (dk_at dksX4_about_5 11 rfl rfl)
theorem dX4_about_156 : decode cX4_about 156 = .ok (.ireturn, 1) := dk_172 (dk_at dksX4_about_5 14 rfl rfl)
theorem dX4_about_157 : decode cX4_about 157 = .ok (.aload_n 0, 1) := dk_42 (dk_at dksX4_about_5 15 rfl rfl)
theorem dX4_about_158 : decode cX4_about 158 = .ok (.getfield 30, 3) := dk_180 0 30 (dk_at dksX4_about_5 16 rfl rfl)
theorem dX4_about_161 : decode cX4_about 161 = .ok (.aload_n 0, 1) := dk_42 (dk_at dksX4_about_5 19 rfl rfl)
theorem dX4_about_162 : decode cX4_about 162 = .ok (.getfield 250, 3) := dk_180 0 250 (dk_at dksX4_about_5 20 rfl rfl)
theorem dX4_about_165 : decode cX4_about 165 = .ok (.iaload, 1) := dk_46 (dk_at dksX4_about_5 23 rfl rfl)
theorem dX4_about_166 : decode cX4_about 166 = .ok (.ireturn, 1) := dk_172 (dk_at dksX4_about_6 0 rfl rfl)
theorem dX4_about_167 : decode cX4_about 167 = .ok (.aload_n 0, 1) := dk_42 (dk_at dksX4_about_6 1 rfl rfl)
theorem dX4_about_168 : decode cX4_about 168 = .ok (.getfield 380, 3) := dk_180 1 124 (dk_at dksX4_about_6 2 rfl rfl)
theorem dX4_about_171 : decode cX4_about 171 = .ok (.ireturn, 1) := dk_172 (dk_at dksX4_about_6 5 rfl rfl)
theorem dX4_about_172 : decode cX4_about 172 = .ok (.iconst (-1), 1) := dk_2 (dk_at dksX4_about_6 6 rfl rfl)
theorem dX4_about_173 : decode cX4_about 173 = .ok (.ireturn, 1) := dk_172 (dk_at dksX4_about_6 7 rfl rfl)
abbrev cX4_feed : ByteArray := prog_27_method_110_code
def yX4_feed : MethodName := ⟨RX4, "feed", "(IIIII)I"⟩
def dkwX4_feed_5 : List UInt8 := [180, 0, 247, 172]
abbrev dktX4_feed_5 : List UInt8 := dkwX4_feed_5 ++ []
def dkwX4_feed_4 : List UInt8 := [126, 104, 100, 122, 145, 84, 132, 6, 1, 167, 255, 172, 42, 89, 180, 0, 247, 16, 20, 96, 181, 0, 247, 42]
abbrev dktX4_feed_4 : List UInt8 := dkwX4_feed_4 ++ dktX4_feed_5
def dkwX4_feed_3 : List UInt8 := [21, 5, 54, 7, 42, 180, 0, 7, 42, 180, 0, 247, 21, 6, 96, 21, 7, 16, 24, 16, 8, 21, 6, 6]
abbrev dktX4_feed_3 : List UInt8 := dkwX4_feed_3 ++ dktX4_feed_4
def dkwX4_feed_2 : List UInt8 := [21, 6, 16, 12, 162, 0, 7, 29, 167, 0, 17, 21, 6, 16, 16, 162, 0, 8, 21, 4, 167, 0, 5]
abbrev dktX4_feed_2 : List UInt8 := dkwX4_feed_2 ++ dktX4_feed_3
def dkwX4_feed_1 : List UInt8 := [162, 0, 83, 21, 6, 7, 162, 0, 7, 27, 167, 0, 39, 21, 6, 16, 8, 162, 0, 7, 28, 167, 0, 28]
abbrev dktX4_feed_1 : List UInt8 := dkwX4_feed_1 ++ dktX4_feed_2
def dkwX4_feed_0 : List UInt8 := [42, 180, 0, 247, 16, 20, 96, 17, 6, 64, 164, 0, 5, 2, 172, 3, 54, 6, 21, 6, 16, 20]
abbrev dktX4_feed_0 : List UInt8 := dkwX4_feed_0 ++ dktX4_feed_1
theorem dksX4_feed_0 : cX4_feed.data.toList.drop 0 = dktX4_feed_0 := by decide +kernel
theorem dksX4_feed_1 : cX4_feed.data.toList.drop 22 = dktX4_feed_1 := dk_seg dksX4_feed_0 22 rfl rfl
theorem dksX4_feed_2 : cX4_feed.data.toList.drop 46 = dktX4_feed_2 := dk_seg dksX4_feed_1 24 rfl rfl
theorem dksX4_feed_3 : cX4_feed.data.toList.drop 69 = dktX4_feed_3 := dk_seg dksX4_feed_2 23 rfl rfl
theorem dksX4_feed_4 : cX4_feed.data.toList.drop 93 = dktX4_feed_4 := dk_seg dksX4_feed_3 24 rfl rfl
theorem dksX4_feed_5 : cX4_feed.data.toList.drop 117 = dktX4_feed_5 := dk_seg dksX4_feed_4 24 rfl rfl
theorem dX4_feed_0 : decode cX4_feed 0 = .ok (.aload_n 0, 1) := dk_42 (dk_at dksX4_feed_0 0 rfl rfl)
theorem dX4_feed_1 : decode cX4_feed 1 = .ok (.getfield 247, 3) := dk_180 0 247 (dk_at dksX4_feed_0 1 rfl rfl)
theorem dX4_feed_4 : decode cX4_feed 4 = .ok (.bipush 20, 2) := dk_16 20 (dk_at dksX4_feed_0 4 rfl rfl)
theorem dX4_feed_6 : decode cX4_feed 6 = .ok (.iadd, 1) := dk_96 (dk_at dksX4_feed_0 6 rfl rfl)
theorem dX4_feed_7 : decode cX4_feed 7 = .ok (.sipush 1600, 3) := dk_17 6 64 (dk_at dksX4_feed_0 7 rfl rfl)
theorem dX4_feed_10 : decode cX4_feed 10 = .ok (.if_icmp .le 5, 3) := dk_164 0 5 (dk_at dksX4_feed_0 10 rfl rfl)
theorem dX4_feed_13 : decode cX4_feed 13 = .ok (.iconst (-1), 1) := dk_2 (dk_at dksX4_feed_0 13 rfl rfl)
theorem dX4_feed_14 : decode cX4_feed 14 = .ok (.ireturn, 1) := dk_172 (dk_at dksX4_feed_0 14 rfl rfl)
theorem dX4_feed_15 : decode cX4_feed 15 = .ok (.iconst 0, 1) := dk_3 (dk_at dksX4_feed_0 15 rfl rfl)
theorem dX4_feed_16 : decode cX4_feed 16 = .ok (.istore 6, 2) := dk_54 6 (dk_at dksX4_feed_0 16 rfl rfl)
theorem dX4_feed_18 : decode cX4_feed 18 = .ok (.iload 6, 2) := dk_21 6 (dk_at dksX4_feed_0 18 rfl rfl)
theorem dX4_feed_20 : decode cX4_feed 20 = .ok (.bipush 20, 2) := dk_16 20 (dk_at dksX4_feed_0 20 rfl rfl)
theorem dX4_feed_22 : decode cX4_feed 22 = .ok (.if_icmp .ge 83, 3) := dk_162 0 83 (dk_at dksX4_feed_1 0 rfl rfl)
theorem dX4_feed_25 : decode cX4_feed 25 = .ok (.iload 6, 2) := dk_21 6 (dk_at dksX4_feed_1 3 rfl rfl)
theorem dX4_feed_27 : decode cX4_feed 27 = .ok (.iconst 4, 1) := dk_7 (dk_at dksX4_feed_1 5 rfl rfl)
theorem dX4_feed_28 : decode cX4_feed 28 = .ok (.if_icmp .ge 7, 3) := dk_162 0 7 (dk_at dksX4_feed_1 6 rfl rfl)
theorem dX4_feed_31 : decode cX4_feed 31 = .ok (.iload_n 1, 1) := dk_27 (dk_at dksX4_feed_1 9 rfl rfl)
theorem dX4_feed_32 : decode cX4_feed 32 = .ok (.goto 39, 3) := dk_167 0 39 (dk_at dksX4_feed_1 10 rfl rfl)
theorem dX4_feed_35 : decode cX4_feed 35 = .ok (.iload 6, 2) := dk_21 6 (dk_at dksX4_feed_1 13 rfl rfl)
theorem dX4_feed_37 : decode cX4_feed 37 = .ok (.bipush 8, 2) := dk_16 8 (dk_at dksX4_feed_1 15 rfl rfl)
theorem dX4_feed_39 : decode cX4_feed 39 = .ok (.if_icmp .ge 7, 3) := dk_162 0 7 (dk_at dksX4_feed_1 17 rfl rfl)
theorem dX4_feed_42 : decode cX4_feed 42 = .ok (.iload_n 2, 1) := dk_28 (dk_at dksX4_feed_1 20 rfl rfl)
theorem dX4_feed_43 : decode cX4_feed 43 = .ok (.goto 28, 3) := dk_167 0 28 (dk_at dksX4_feed_1 21 rfl rfl)
theorem dX4_feed_46 : decode cX4_feed 46 = .ok (.iload 6, 2) := dk_21 6 (dk_at dksX4_feed_2 0 rfl rfl)
theorem dX4_feed_48 : decode cX4_feed 48 = .ok (.bipush 12, 2) := dk_16 12 (dk_at dksX4_feed_2 2 rfl rfl)
theorem dX4_feed_50 : decode cX4_feed 50 = .ok (.if_icmp .ge 7, 3) := dk_162 0 7 (dk_at dksX4_feed_2 4 rfl rfl)
theorem dX4_feed_53 : decode cX4_feed 53 = .ok (.iload_n 3, 1) := dk_29 (dk_at dksX4_feed_2 7 rfl rfl)
theorem dX4_feed_54 : decode cX4_feed 54 = .ok (.goto 17, 3) := dk_167 0 17 (dk_at dksX4_feed_2 8 rfl rfl)
theorem dX4_feed_57 : decode cX4_feed 57 = .ok (.iload 6, 2) := dk_21 6 (dk_at dksX4_feed_2 11 rfl rfl)
theorem dX4_feed_59 : decode cX4_feed 59 = .ok (.bipush 16, 2) := dk_16 16 (dk_at dksX4_feed_2 13 rfl rfl)
theorem dX4_feed_61 : decode cX4_feed 61 = .ok (.if_icmp .ge 8, 3) := dk_162 0 8 (dk_at dksX4_feed_2 15 rfl rfl)
theorem dX4_feed_64 : decode cX4_feed 64 = .ok (.iload 4, 2) := dk_21 4 (dk_at dksX4_feed_2 18 rfl rfl)
theorem dX4_feed_66 : decode cX4_feed 66 = .ok (.goto 5, 3) := dk_167 0 5 (dk_at dksX4_feed_2 20 rfl rfl)
theorem dX4_feed_69 : decode cX4_feed 69 = .ok (.iload 5, 2) := dk_21 5 (dk_at dksX4_feed_3 0 rfl rfl)
theorem dX4_feed_71 : decode cX4_feed 71 = .ok (.istore 7, 2) := dk_54 7 (dk_at dksX4_feed_3 2 rfl rfl)
theorem dX4_feed_73 : decode cX4_feed 73 = .ok (.aload_n 0, 1) := dk_42 (dk_at dksX4_feed_3 4 rfl rfl)
theorem dX4_feed_74 : decode cX4_feed 74 = .ok (.getfield 7, 3) := dk_180 0 7 (dk_at dksX4_feed_3 5 rfl rfl)
theorem dX4_feed_77 : decode cX4_feed 77 = .ok (.aload_n 0, 1) := dk_42 (dk_at dksX4_feed_3 8 rfl rfl)
theorem dX4_feed_78 : decode cX4_feed 78 = .ok (.getfield 247, 3) := dk_180 0 247 (dk_at dksX4_feed_3 9 rfl rfl)
theorem dX4_feed_81 : decode cX4_feed 81 = .ok (.iload 6, 2) := dk_21 6 (dk_at dksX4_feed_3 12 rfl rfl)
theorem dX4_feed_83 : decode cX4_feed 83 = .ok (.iadd, 1) := dk_96 (dk_at dksX4_feed_3 14 rfl rfl)
theorem dX4_feed_84 : decode cX4_feed 84 = .ok (.iload 7, 2) := dk_21 7 (dk_at dksX4_feed_3 15 rfl rfl)
theorem dX4_feed_86 : decode cX4_feed 86 = .ok (.bipush 24, 2) := dk_16 24 (dk_at dksX4_feed_3 17 rfl rfl)
theorem dX4_feed_88 : decode cX4_feed 88 = .ok (.bipush 8, 2) := dk_16 8 (dk_at dksX4_feed_3 19 rfl rfl)
theorem dX4_feed_90 : decode cX4_feed 90 = .ok (.iload 6, 2) := dk_21 6 (dk_at dksX4_feed_3 21 rfl rfl)
theorem dX4_feed_92 : decode cX4_feed 92 = .ok (.iconst 3, 1) := dk_6 (dk_at dksX4_feed_3 23 rfl rfl)
theorem dX4_feed_93 : decode cX4_feed 93 = .ok (.iand, 1) := dk_126 (dk_at dksX4_feed_4 0 rfl rfl)
theorem dX4_feed_94 : decode cX4_feed 94 = .ok (.imul, 1) := dk_104 (dk_at dksX4_feed_4 1 rfl rfl)
theorem dX4_feed_95 : decode cX4_feed 95 = .ok (.isub, 1) := dk_100 (dk_at dksX4_feed_4 2 rfl rfl)
theorem dX4_feed_96 : decode cX4_feed 96 = .ok (.ishr, 1) := dk_122 (dk_at dksX4_feed_4 3 rfl rfl)
theorem dX4_feed_97 : decode cX4_feed 97 = .ok (.i2b, 1) := dk_145 (dk_at dksX4_feed_4 4 rfl rfl)
theorem dX4_feed_98 : decode cX4_feed 98 = .ok (.bastore, 1) := dk_84 (dk_at dksX4_feed_4 5 rfl rfl)
theorem dX4_feed_99 : decode cX4_feed 99 = .ok (.iinc 6 1, 3) := dk_132 6 1 (dk_at dksX4_feed_4 6 rfl rfl)
theorem dX4_feed_102 : decode cX4_feed 102 = .ok (.goto (-84), 3) := dk_167 255 172 (dk_at dksX4_feed_4 9 rfl rfl)
theorem dX4_feed_105 : decode cX4_feed 105 = .ok (.aload_n 0, 1) := dk_42 (dk_at dksX4_feed_4 12 rfl rfl)
theorem dX4_feed_106 : decode cX4_feed 106 = .ok (.dup, 1) := dk_89 (dk_at dksX4_feed_4 13 rfl rfl)
theorem dX4_feed_107 : decode cX4_feed 107 = .ok (.getfield 247, 3) := dk_180 0 247 (dk_at dksX4_feed_4 14 rfl rfl)
theorem dX4_feed_110 : decode cX4_feed 110 = .ok (.bipush 20, 2) := dk_16 20 (dk_at dksX4_feed_4 17 rfl rfl)
theorem dX4_feed_112 : decode cX4_feed 112 = .ok (.iadd, 1) := dk_96 (dk_at dksX4_feed_4 19 rfl rfl)
theorem dX4_feed_113 : decode cX4_feed 113 = .ok (.putfield 247, 3) := dk_181 0 247 (dk_at dksX4_feed_4 20 rfl rfl)
theorem dX4_feed_116 : decode cX4_feed 116 = .ok (.aload_n 0, 1) := dk_42 (dk_at dksX4_feed_4 23 rfl rfl)
theorem dX4_feed_117 : decode cX4_feed 117 = .ok (.getfield 247, 3) := dk_180 0 247 (dk_at dksX4_feed_5 0 rfl rfl)
theorem dX4_feed_120 : decode cX4_feed 120 = .ok (.ireturn, 1) := dk_172 (dk_at dksX4_feed_5 3 rfl rfl)
abbrev cX4_end : ByteArray := prog_27_method_111_code
def yX4_end : MethodName := ⟨RX4, "end", "(I)I"⟩
def dkwX4_end_0 : List UInt8 := [27, 155, 0, 11, 27, 42, 180, 0, 247, 164, 0, 5, 2, 172, 42, 27, 181, 0, 247, 27, 172]
abbrev dktX4_end_0 : List UInt8 := dkwX4_end_0 ++ []
theorem dksX4_end_0 : cX4_end.data.toList.drop 0 = dktX4_end_0 := by decide +kernel
theorem dX4_end_0 : decode cX4_end 0 = .ok (.iload_n 1, 1) := dk_27 (dk_at dksX4_end_0 0 rfl rfl)
theorem dX4_end_1 : decode cX4_end 1 = .ok (.ifCond .lt 11, 3) := dk_155 0 11 (dk_at dksX4_end_0 1 rfl rfl)
theorem dX4_end_4 : decode cX4_end 4 = .ok (.iload_n 1, 1) := dk_27 (dk_at dksX4_end_0 4 rfl rfl)
theorem dX4_end_5 : decode cX4_end 5 = .ok (.aload_n 0, 1) := dk_42 (dk_at dksX4_end_0 5 rfl rfl)
theorem dX4_end_6 : decode cX4_end 6 = .ok (.getfield 247, 3) := dk_180 0 247 (dk_at dksX4_end_0 6 rfl rfl)
theorem dX4_end_9 : decode cX4_end 9 = .ok (.if_icmp .le 5, 3) := dk_164 0 5 (dk_at dksX4_end_0 9 rfl rfl)
theorem dX4_end_12 : decode cX4_end 12 = .ok (.iconst (-1), 1) := dk_2 (dk_at dksX4_end_0 12 rfl rfl)
theorem dX4_end_13 : decode cX4_end 13 = .ok (.ireturn, 1) := dk_172 (dk_at dksX4_end_0 13 rfl rfl)
theorem dX4_end_14 : decode cX4_end 14 = .ok (.aload_n 0, 1) := dk_42 (dk_at dksX4_end_0 14 rfl rfl)
theorem dX4_end_15 : decode cX4_end 15 = .ok (.iload_n 1, 1) := dk_27 (dk_at dksX4_end_0 15 rfl rfl)
theorem dX4_end_16 : decode cX4_end 16 = .ok (.putfield 247, 3) := dk_181 0 247 (dk_at dksX4_end_0 16 rfl rfl)
theorem dX4_end_19 : decode cX4_end 19 = .ok (.iload_n 1, 1) := dk_27 (dk_at dksX4_end_0 19 rfl rfl)
theorem dX4_end_20 : decode cX4_end 20 = .ok (.ireturn, 1) := dk_172 (dk_at dksX4_end_0 20 rfl rfl)
