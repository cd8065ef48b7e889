set_option maxRecDepth 100000
abbrev cX0_alike : ByteArray := prog_1_method_46_code
def yX0_alike : MethodName := ⟨RX0, "alike", "(IZ)I"⟩
def dkwX0_alike_3 : List UInt8 := [167, 0, 4, 3, 128, 62, 132, 4, 1, 167, 255, 192, 29, 172]
abbrev dktX0_alike_3 : List UInt8 := dkwX0_alike_3 ++ []
def dkwX0_alike_2 : List UInt8 := [182, 0, 195, 167, 0, 13, 42, 180, 0, 31, 180, 0, 164, 21, 4, 46, 27, 160, 0, 10, 4, 21, 4, 120]
abbrev dktX0_alike_2 : List UInt8 := dkwX0_alike_2 ++ dktX0_alike_3
def dkwX0_alike_1 : List UInt8 := [162, 0, 58, 29, 28, 153, 0, 23, 42, 180, 0, 20, 42, 180, 0, 31, 180, 0, 164, 21, 4, 46]
abbrev dktX0_alike_1 : List UInt8 := dkwX0_alike_1 ++ dktX0_alike_2
def dkwX0_alike_0 : List UInt8 := [42, 27, 182, 0, 192, 154, 0, 5, 2, 172, 3, 62, 3, 54, 4, 21, 4, 42, 180, 0, 31, 180, 0, 154]
abbrev dktX0_alike_0 : List UInt8 := dkwX0_alike_0 ++ dktX0_alike_1
theorem dksX0_alike_0 : cX0_alike.data.toList.drop 0 = dktX0_alike_0 := by decide +kernel
theorem dksX0_alike_1 : cX0_alike.data.toList.drop 24 = dktX0_alike_1 := dk_seg dksX0_alike_0 24 rfl rfl
theorem dksX0_alike_2 : cX0_alike.data.toList.drop 46 = dktX0_alike_2 := dk_seg dksX0_alike_1 22 rfl rfl
theorem dksX0_alike_3 : cX0_alike.data.toList.drop 70 = dktX0_alike_3 := dk_seg dksX0_alike_2 24 rfl rfl
theorem dX0_alike_0 : decode cX0_alike 0 = .ok (.aload_n 0, 1) := dk_42 (dk_at dksX0_alike_0 0 rfl rfl)
theorem dX0_alike_1 : decode cX0_alike 1 = .ok (.iload_n 1, 1) := dk_27 (dk_at dksX0_alike_0 1 rfl rfl)
theorem dX0_alike_2 : decode cX0_alike 2 = .ok (.invokevirtual 192, 3) := dk_182 0 192 (dk_at dksX0_alike_0 2 rfl rfl)
theorem dX0_alike_5 : decode cX0_alike 5 = .ok (.ifCond .ne 5, 3) := dk_154 0 5 (dk_at dksX0_alike_0 5 rfl rfl)
theorem dX0_alike_8 : decode cX0_alike 8 = .ok (.iconst (-1), 1) := dk_2 (dk_at dksX0_alike_0 8 rfl rfl)
theorem dX0_alike_9 : decode cX0_alike 9 = .ok (.ireturn, 1) := dk_172 (dk_at dksX0_alike_0 9 rfl rfl)
theorem dX0_alike_10 : decode cX0_alike 10 = .ok (.iconst 0, 1) := dk_3 (dk_at dksX0_alike_0 10 rfl rfl)
theorem dX0_alike_11 : decode cX0_alike 11 = .ok (.istore_n 3, 1) := dk_62 (dk_at dksX0_alike_0 11 rfl rfl)
theorem dX0_alike_12 : decode cX0_alike 12 = .ok (.iconst 0, 1) := dk_3 (dk_at dksX0_alike_0 12 rfl rfl)
theorem dX0_alike_13 : decode cX0_alike 13 = .ok (.istore 4, 2) := dk_54 4 (dk_at dksX0_alike_0 13 rfl rfl)
theorem dX0_alike_15 : decode cX0_alike 15 = .ok (.iload 4, 2) := dk_21 4 (dk_at dksX0_alike_0 15 rfl rfl)
theorem dX0_alike_17 : decode cX0_alike 17 = .ok (.aload_n 0, 1) := dk_42 (dk_at dksX0_alike_0 17 rfl rfl)
theorem dX0_alike_18 : decode cX0_alike 18 = .ok (.getfield 31, 3) := dk_180 0 31 (dk_at dksX0_alike_0 18 rfl rfl)
theorem dX0_alike_21 : decode cX0_alike 21 = .ok (.getfield 154, 3) := dk_180 0 154 (dk_at dksX0_alike_0 21 rfl rfl)
theorem dX0_alike_24 : decode cX0_alike 24 = .ok (.if_icmp .ge 58, 3) := dk_162 0 58 (dk_at dksX0_alike_1 0 rfl rfl)
theorem dX0_alike_27 : decode cX0_alike 27 = .ok (.iload_n 3, 1) := dk_29 (dk_at dksX0_alike_1 3 rfl rfl)
theorem dX0_alike_28 : decode cX0_alike 28 = .ok (.iload_n 2, 1) := dk_28 (dk_at dksX0_alike_1 4 rfl rfl)
theorem dX0_alike_29 : decode cX0_alike 29 = .ok (.ifCond .eq 23, 3) := dk_153 0 23 (dk_at dksX0_alike_1 5 rfl rfl)
theorem dX0_alike_32 : decode cX0_alike 32 = .ok (.aload_n 0, 1) := dk_42 (dk_at dksX0_alike_1 8 rfl rfl)
theorem dX0_alike_33 : decode cX0_alike 33 = .ok (.getfield 20, 3) := dk_180 0 20 (dk_at dksX0_alike_1 9 rfl rfl)
theorem dX0_alike_36 : decode cX0_alike 36 = .ok (.aload_n 0, 1) := dk_42 (dk_at dksX0_alike_1 12 rfl rfl)
theorem dX0_alike_37 : decode cX0_alike 37 = .ok (.getfield 31, 3) := dk_180 0 31 (dk_at dksX0_alike_1 13 rfl rfl)
theorem dX0_alike_40 : decode cX0_alike 40 = .ok (.getfield 164, 3) := dk_180 0 164 (dk_at dksX0_alike_1 16 rfl rfl)
theorem dX0_alike_43 : decode cX0_alike 43 = .ok (.iload 4, 2) := dk_21 4 (dk_at dksX0_alike_1 19 rfl rfl)
theorem dX0_alike_45 : decode cX0_alike 45 = .ok (.iaload, 1) := dk_46 (dk_at dksX0_alike_1 21 rfl rfl)
theorem dX0_alike_46 : decode cX0_alike 46 = .ok (.invokevirtual 195, 3) := dk_182 0 195 (dk_at dksX0_alike_2 0 rfl rfl)
theorem dX0_alike_49 : decode cX0_alike 49 = .ok (.goto 13, 3) := dk_167 0 13 (dk_at dksX0_alike_2 3 rfl rfl)
theorem dX0_alike_52 : decode cX0_alike 52 = .ok (.aload_n 0, 1) := dk_42 (dk_at dksX0_alike_2 6 rfl rfl)
theorem dX0_alike_53 : decode cX0_alike 53 = .ok (.getfield 31, 3) := dk_180 0 31 (dk_at dksX0_alike_2 7 rfl rfl)
theorem dX0_alike_56 : decode cX0_alike 56 = .ok (.getfield 164, 3) := dk_180 0 164 (dk_at dksX0_alike_2 10 rfl rfl)
theorem dX0_alike_59 : decode cX0_alike 59 = .ok (.iload 4, 2) := dk_21 4 (dk_at dksX0_alike_2 13 rfl rfl)
theorem dX0_alike_61 : decode cX0_alike 61 = .ok (.iaload, 1) := dk_46 (dk_at dksX0_alike_2 15 rfl rfl)
theorem dX0_alike_62 : decode cX0_alike 62 = .ok (.iload_n 1, 1) := dk_27 (dk_at dksX0_alike_2 16 rfl rfl)
theorem dX0_alike_63 : decode cX0_alike 63 = .ok (.if_icmp .ne 10, 3) := dk_160 0 10 (dk_at dksX0_alike_2 17 rfl rfl)
theorem dX0_alike_66 : decode cX0_alike 66 = .ok (.iconst 1, 1) := dk_4 (dk_at dksX0_alike_2 20 rfl rfl)
theorem dX0_alike_67 : decode cX0_alike 67 = .ok (.iload 4, 2) := dk_21 4 (dk_at dksX0_alike_2 21 rfl rfl)
theorem dX0_alike_69 : decode cX0_alike 69 = .ok (.ishl, 1) := dk_120 (dk_at dksX0_alike_2 23 rfl rfl)
theorem dX0_alike_70 : decode cX0_alike 70 = .ok (.goto 4, 3) := dk_167 0 4 (dk_at dksX0_alike_3 0 rfl rfl)
theorem dX0_alike_73 : decode cX0_alike 73 = .ok (.iconst 0, 1) := dk_3 (dk_at dksX0_alike_3 3 rfl rfl)
theorem dX0_alike_74 : decode cX0_alike 74 = .ok (.ior, 1) := dk_128 (dk_at dksX0_alike_3 4 rfl rfl)
theorem dX0_alike_75 : decode cX0_alike 75 = .ok (.istore_n 3, 1) := dk_62 (dk_at dksX0_alike_3 5 rfl rfl)
theorem dX0_alike_76 : decode cX0_alike 76 = .ok (.iinc 4 1, 3) := dk_132 4 1 (dk_at dksX0_alike_3 6 rfl rfl)
theorem dX0_alike_79 : decode cX0_alike 79 = .ok (.goto (-64), 3) := dk_167 255 192 (dk_at dksX0_alike_3 9 rfl rfl)
theorem dX0_alike_82 : decode cX0_alike 82 = .ok (.iload_n 3, 1) := dk_29 (dk_at dksX0_alike_3 12 rfl rfl)
theorem dX0_alike_83 : decode cX0_alike 83 = .ok (.ireturn, 1) := dk_172 (dk_at dksX0_alike_3 13 rfl rfl)
abbrev cX0_tell : ByteArray := prog_1_method_49_code
def yX0_tell : MethodName := ⟨RX0, "tell", "()I"⟩
def dkwX0_tell_4 : List UInt8 := [132, 2, 1, 167, 255, 228, 42, 180, 0, 121, 172]
abbrev dktX0_tell_4 : List UInt8 := dkwX0_tell_4 ++ []
def dkwX0_tell_3 : List UInt8 := [180, 0, 20, 180, 0, 147, 162, 0, 23, 27, 28, 122, 4, 126, 4, 160, 0, 8, 42, 28, 182, 1, 11]
abbrev dktX0_tell_3 : List UInt8 := dkwX0_tell_3 ++ dktX0_tell_4
def dkwX0_tell_2 : List UInt8 := [162, 0, 13, 42, 28, 182, 1, 8, 153, 0, 5, 28, 60, 132, 2, 1, 167, 255, 208, 3, 61, 28, 42]
abbrev dktX0_tell_2 : List UInt8 := dkwX0_tell_2 ++ dktX0_tell_3
def dkwX0_tell_1 : List UInt8 := [184, 0, 240, 27, 184, 0, 240, 161, 0, 19, 28, 184, 0, 240, 27, 184, 0, 240, 160, 0, 18, 28, 27]
abbrev dktX0_tell_1 : List UInt8 := dkwX0_tell_1 ++ dktX0_tell_2
def dkwX0_tell_0 : List UInt8 := [42, 3, 181, 0, 121, 42, 182, 0, 157, 4, 100, 60, 3, 61, 28, 42, 182, 0, 157, 162, 0, 46, 28]
abbrev dktX0_tell_0 : List UInt8 := dkwX0_tell_0 ++ dktX0_tell_1
theorem dksX0_tell_0 : cX0_tell.data.toList.drop 0 = dktX0_tell_0 := by decide +kernel
theorem dksX0_tell_1 : cX0_tell.data.toList.drop 23 = dktX0_tell_1 := dk_seg dksX0_tell_0 23 rfl rfl
theorem dksX0_tell_2 : cX0_tell.data.toList.drop 46 = dktX0_tell_2 := dk_seg dksX0_tell_1 23 rfl rfl
theorem dksX0_tell_3 : cX0_tell.data.toList.drop 69 = dktX0_tell_3 := dk_seg dksX0_tell_2 23 rfl rfl
theorem dksX0_tell_4 : cX0_tell.data.toList.drop 92 = dktX0_tell_4 := dk_seg dksX0_tell_3 23 rfl rfl
theorem dX0_tell_0 : decode cX0_tell 0 = .ok (.aload_n 0, 1) := dk_42 (dk_at dksX0_tell_0 0 rfl rfl)
theorem dX0_tell_1 : decode cX0_tell 1 = .ok (.iconst 0, 1) := dk_3 (dk_at dksX0_tell_0 1 rfl rfl)
theorem dX0_tell_2 : decode cX0_tell 2 = .ok (.putfield 121, 3) := dk_181 0 121 (dk_at dksX0_tell_0 2 rfl rfl)
theorem dX0_tell_5 : decode cX0_tell 5 = .ok (.aload_n 0, 1) := dk_42 (dk_at dksX0_tell_0 5 rfl rfl)
theorem dX0_tell_6 : decode cX0_tell 6 = .ok (.invokevirtual 157, 3) := dk_182 0 157 (dk_at dksX0_tell_0 6 rfl rfl)
theorem dX0_tell_9 : decode cX0_tell 9 = .ok (.iconst 1, 1) := dk_4 (dk_at dksX0_tell_0 9 rfl rfl)
theorem dX0_tell_10 : decode cX0_tell 10 = .ok (.isub, 1) := dk_100 (dk_at dksX0_tell_0 10 rfl rfl)
theorem dX0_tell_11 : decode cX0_tell 11 = .ok (.istore_n 1, 1) := dk_60 (dk_at dksX0_tell_0 11 rfl rfl)
theorem dX0_tell_12 : decode cX0_tell 12 = .ok (.iconst 0, 1) := dk_3 (dk_at dksX0_tell_0 12 rfl rfl)
theorem dX0_tell_13 : decode cX0_tell 13 = .ok (.istore_n 2, 1) := dk_61 (dk_at dksX0_tell_0 13 rfl rfl)
theorem dX0_tell_14 : decode cX0_tell 14 = .ok (.iload_n 2, 1) := dk_28 (dk_at dksX0_tell_0 14 rfl rfl)
theorem dX0_tell_15 : decode cX0_tell 15 = .ok (.aload_n 0, 1) := dk_42 (dk_at dksX0_tell_0 15 rfl rfl)
theorem dX0_tell_16 : decode cX0_tell 16 = .ok (.invokevirtual 157, 3) := dk_182 0 157 (dk_at dksX0_tell_0 16 rfl rfl)
theorem dX0_tell_19 : decode cX0_tell 19 = .ok (.if_icmp .ge 46, 3) := dk_162 0 46 (dk_at dksX0_tell_0 19 rfl rfl)
theorem dX0_tell_22 : decode cX0_tell 22 = .ok (.iload_n 2, 1) := dk_28 (dk_at dksX0_tell_0 22 rfl rfl)
theorem dX0_tell_23 : decode cX0_tell 23 = .ok (.invokestatic 240, 3) := dk_184 0 240 (dk_at dksX0_tell_1 0 rfl rfl)
theorem dX0_tell_26 : decode cX0_tell 26 = .ok (.iload_n 1, 1) := dk_27 (dk_at dksX0_tell_1 3 rfl rfl)
theorem dX0_tell_27 : decode cX0_tell 27 = .ok (.invokestatic 240, 3) := dk_184 0 240 (dk_at dksX0_tell_1 4 rfl rfl)
theorem dX0_tell_30 : decode cX0_tell 30 = .ok (.if_icmp .lt 19, 3) := dk_161 0 19 (dk_at dksX0_tell_1 7 rfl rfl)
theorem dX0_tell_33 : decode cX0_tell 33 = .ok (.iload_n 2, 1) := dk_28 (dk_at dksX0_tell_1 10 rfl rfl)
theorem dX0_tell_34 : decode cX0_tell 34 = .ok (.invokestatic 240, 3) := dk_184 0 240 (dk_at dksX0_tell_1 11 rfl rfl)
theorem dX0_tell_37 : decode cX0_tell 37 = .ok (.iload_n 1, 1) := dk_27 (dk_at dksX0_tell_1 14 rfl rfl)
theorem dX0_tell_38 : decode cX0_tell 38 = .ok (.invokestatic 240, 3) := dk_184 0 240 (dk_at dksX0_tell_1 15 rfl rfl)
theorem dX0_tell_41 : decode cX0_tell 41 = .ok (.if_icmp .ne 18, 3) := dk_160 0 18 (dk_at dksX0_tell_1 18 rfl rfl)
theorem dX0_tell_44 : decode cX0_tell 44 = .ok (.iload_n 2, 1) := dk_28 (dk_at dksX0_tell_1 21 rfl rfl)
theorem dX0_tell_45 : decode cX0_tell 45 = .ok (.iload_n 1, 1) := dk_27 (dk_at dksX0_tell_1 22 rfl rfl)
theorem dX0_tell_46 : decode cX0_tell 46 = .ok (.if_icmp .ge 13, 3) := dk_162 0 13 (dk_at dksX0_tell_2 0 rfl rfl)
theorem dX0_tell_49 : decode cX0_tell 49 = .ok (.aload_n 0, 1) := dk_42 (dk_at dksX0_tell_2 3 rfl rfl)
theorem dX0_tell_50 : decode cX0_tell 50 = .ok (.iload_n 2, 1) := dk_28 (dk_at dksX0_tell_2 4 rfl rfl)
theorem dX0_tell_51 : decode cX0_tell 51 = .ok (.invokevirtual 264, 3) := dk_182 1 8 (dk_at dksX0_tell_2 5 rfl rfl)
theorem dX0_tell_54 : decode cX0_tell 54 = .ok (.ifCond .eq 5, 3) := dk_153 0 5 (dk_at dksX0_tell_2 8 rfl rfl)
theorem dX0_tell_57 : decode cX0_tell 57 = .ok (.iload_n 2, 1) := dk_28 (dk_at dksX0_tell_2 11 rfl rfl)
theorem dX0_tell_58 : decode cX0_tell 58 = .ok (.istore_n 1, 1) := dk_60 (dk_at dksX0_tell_2 12 rfl rfl)
theorem dX0_tell_59 : decode cX0_tell 59 = .ok (.iinc 2 1, 3) := dk_132 2 1 (dk_at dksX0_tell_2 13 rfl rfl)
theorem dX0_tell_62 : decode cX0_tell 62 = .ok (.goto (-48), 3) := dk_167 255 208 (dk_at dksX0_tell_2 16 rfl rfl)
theorem dX0_tell_65 : decode cX0_tell 65 = .ok (.iconst 0, 1) := dk_3 (dk_at dksX0_tell_2 19 rfl rfl)
theorem dX0_tell_66 : decode cX0_tell 66 = .ok (.istore_n 2, 1) := dk_61 (dk_at dksX0_tell_2 20 rfl rfl)
theorem dX0_tell_67 : decode cX0_tell 67 = .ok (.iload_n 2, 1) := dk_28 (dk_at dksX0_tell_2 21 rfl rfl)
theorem dX0_tell_68 : decode cX0_tell 68 = .ok (.aload_n 0, 1) := dk_42 (dk_at dksX0_tell_2 22 rfl rfl)
theorem dX0_tell_69 : decode cX0_tell 69 = .ok (.getfield 20, 3) := dk_180 0 20 (dk_at dksX0_tell_3 0 rfl rfl)
theorem dX0_tell_72 : decode cX0_tell 72 = .ok (.getfield 147, 3) := dk_180 0 147 (dk_at dksX0_tell_3 3 rfl rfl)
theorem dX0_tell_75 : decode cX0_tell 75 = .ok (.if_icmp .ge 23, 3) := dk_162 0 23 (dk_at dksX0_tell_3 6 rfl rfl)
theorem dX0_tell_78 : decode cX0_tell 78 = .ok (.iload_n 1, 1) := dk_27 (dk_at dksX0_tell_3 9 rfl rfl)
theorem dX0_tell_79 : decode cX0_tell 79 = .ok (.iload_n 2, 1) := dk_28 (dk_at dksX0_tell_3 10 rfl rfl)
theorem dX0_tell_80 : decode cX0_tell 80 = .ok (.ishr, 1) := dk_122 (dk_at dksX0_tell_3 11 rfl rfl)
theorem dX0_tell_81 : decode cX0_tell 81 = .ok (.iconst 1, 1) := dk_4 (dk_at dksX0_tell_3 12 rfl rfl)
theorem dX0_tell_82 : decode cX0_tell 82 = .ok (.iand, 1) := dk_126 (dk_at dksX0_tell_3 13 rfl rfl)
theorem dX0_tell_83 : decode cX0_tell 83 = .ok (.iconst 1, 1) := dk_4 (dk_at dksX0_tell_3 14 rfl rfl)
theorem dX0_tell_84 : decode cX0_tell 84 = .ok (.if_icmp .ne 8, 3) := dk_160 0 8 (dk_at dksX0_tell_3 15 rfl rfl)
theorem dX0_tell_87 : decode cX0_tell 87 = .ok (.aload_n 0, 1) := dk_42 (dk_at dksX0_tell_3 18 rfl rfl)
theorem dX0_tell_88 : decode cX0_tell 88 = .ok (.iload_n 2, 1) := dk_28 (dk_at dksX0_tell_3 19 rfl rfl)
theorem dX0_tell_89 : decode cX0_tell 89 = .ok (.invokevirtual 267, 3) := dk_182 1 11 (dk_at dksX0_tell_3 20 rfl rfl)
theorem dX0_tell_92 : decode cX0_tell 92 = .ok (.iinc 2 1, 3) := dk_132 2 1 (dk_at dksX0_tell_4 0 rfl rfl)
theorem dX0_tell_95 : decode cX0_tell 95 = .ok (.goto (-28), 3) := dk_167 255 228 (dk_at dksX0_tell_4 3 rfl rfl)
theorem dX0_tell_98 : decode cX0_tell 98 = .ok (.aload_n 0, 1) := dk_42 (dk_at dksX0_tell_4 6 rfl rfl)
theorem dX0_tell_99 : decode cX0_tell 99 = .ok (.getfield 121, 3) := dk_180 0 121 (dk_at dksX0_tell_4 7 rfl rfl)
theorem dX0_tell_102 : decode cX0_tell 102 = .ok (.ireturn, 1) := dk_172 (dk_at dksX0_tell_4 10 rfl rfl)
abbrev cX0_tells : ByteArray := prog_1_method_47_code
def yX0_tells : MethodName := ⟨RX0, "tells", "(I)Z"⟩
def dkwX0_tells_4 : List UInt8 := [167, 255, 166, 28, 172]
abbrev dktX0_tells_4 : List UInt8 := dkwX0_tells_4 ++ []
def dkwX0_tells_3 : List UInt8 := [46, 130, 27, 126, 153, 0, 7, 4, 167, 0, 4, 3, 61, 132, 4, 1, 167, 255, 190, 132, 3, 1]
abbrev dktX0_tells_3 : List UInt8 := dkwX0_tells_3 ++ dktX0_tells_4
def dkwX0_tells_2 : List UInt8 := [21, 4, 46, 159, 0, 28, 42, 180, 0, 31, 180, 0, 164, 29, 46, 42, 180, 0, 31, 180, 0, 164, 21, 4]
abbrev dktX0_tells_2 : List UInt8 := dkwX0_tells_2 ++ dktX0_tells_3
def dkwX0_tells_1 : List UInt8 := [29, 162, 0, 66, 28, 153, 0, 62, 42, 180, 0, 31, 180, 0, 164, 29, 46, 42, 180, 0, 31, 180, 0, 164]
abbrev dktX0_tells_1 : List UInt8 := dkwX0_tells_1 ++ dktX0_tells_2
def dkwX0_tells_0 : List UInt8 := [4, 61, 3, 62, 29, 42, 180, 0, 31, 180, 0, 154, 162, 0, 85, 28, 153, 0, 81, 3, 54, 4, 21, 4]
abbrev dktX0_tells_0 : List UInt8 := dkwX0_tells_0 ++ dktX0_tells_1
theorem dksX0_tells_0 : cX0_tells.data.toList.drop 0 = dktX0_tells_0 := by decide +kernel
theorem dksX0_tells_1 : cX0_tells.data.toList.drop 24 = dktX0_tells_1 := dk_seg dksX0_tells_0 24 rfl rfl
theorem dksX0_tells_2 : cX0_tells.data.toList.drop 48 = dktX0_tells_2 := dk_seg dksX0_tells_1 24 rfl rfl
theorem dksX0_tells_3 : cX0_tells.data.toList.drop 72 = dktX0_tells_3 := dk_seg dksX0_tells_2 24 rfl rfl
theorem dksX0_tells_4 : cX0_tells.data.toList.drop 94 = dktX0_tells_4 := dk_seg dksX0_tells_3 22 rfl rfl
theorem dX0_tells_0 : decode cX0_tells 0 = .ok (.iconst 1, 1) := dk_4 (dk_at dksX0_tells_0 0 rfl rfl)
theorem dX0_tells_1 : decode cX0_tells 1 = .ok (.istore_n 2, 1) := dk_61 (dk_at dksX0_tells_0 1 rfl rfl)
theorem dX0_tells_2 : decode cX0_tells 2 = .ok (.iconst 0, 1) := dk_3 (dk_at dksX0_tells_0 2 rfl rfl)
theorem dX0_tells_3 : decode cX0_tells 3 = .ok (.istore_n 3, 1) := dk_62 (dk_at dksX0_tells_0 3 rfl rfl)
theorem dX0_tells_4 : decode cX0_tells 4 = .ok (.iload_n 3, 1) := dk_29 (dk_at dksX0_tells_0 4 rfl rfl)
theorem dX0_tells_5 : decode cX0_tells 5 = .ok (.aload_n 0, 1) := dk_42 (dk_at dksX0_tells_0 5 rfl rfl)
theorem dX0_tells_6 : decode cX0_tells 6 = .ok (.getfield 31, 3) := dk_180 0 31 (dk_at dksX0_tells_0 6 rfl rfl)
theorem dX0_tells_9 : decode cX0_tells 9 = .ok (.getfield 154, 3) := dk_180 0 154 (dk_at dksX0_tells_0 9 rfl rfl)
theorem dX0_tells_12 : decode cX0_tells 12 = .ok (.if_icmp .ge 85, 3) := dk_162 0 85 (dk_at dksX0_tells_0 12 rfl rfl)
theorem dX0_tells_15 : decode cX0_tells 15 = .ok (.iload_n 2, 1) := dk_28 (dk_at dksX0_tells_0 15 rfl rfl)
theorem dX0_tells_16 : decode cX0_tells 16 = .ok (.ifCond .eq 81, 3) := dk_153 0 81 (dk_at dksX0_tells_0 16 rfl rfl)
theorem dX0_tells_19 : decode cX0_tells 19 = .ok (.iconst 0, 1) := dk_3 (dk_at dksX0_tells_0 19 rfl rfl)
theorem dX0_tells_20 : decode cX0_tells 20 = .ok (.istore 4, 2) := dk_54 4 (dk_at dksX0_tells_0 20 rfl rfl)
theorem dX0_tells_22 : decode cX0_tells 22 = .ok (.iload 4, 2) := dk_21 4 (dk_at dksX0_tells_0 22 rfl rfl)
theorem dX0_tells_24 : decode cX0_tells 24 = .ok (.iload_n 3, 1) := dk_29 (dk_at dksX0_tells_1 0 rfl rfl)
theorem dX0_tells_25 : decode cX0_tells 25 = .ok (.if_icmp .ge 66, 3) := dk_162 0 66 (dk_at dksX0_tells_1 1 rfl rfl)
theorem dX0_tells_28 : decode cX0_tells 28 = .ok (.iload_n 2, 1) := dk_28 (dk_at dksX0_tells_1 4 rfl rfl)
theorem dX0_tells_29 : decode cX0_tells 29 = .ok (.ifCond .eq 62, 3) := dk_153 0 62 (dk_at dksX0_tells_1 5 rfl rfl)
theorem dX0_tells_32 : decode cX0_tells 32 = .ok (.aload_n 0, 1) := dk_42 (dk_at dksX0_tells_1 8 rfl rfl)
theorem dX0_tells_33 : decode cX0_tells 33 = .ok (.getfield 31, 3) := dk_180 0 31 (dk_at dksX0_tells_1 9 rfl rfl)
theorem dX0_tells_36 : decode cX0_tells 36 = .ok (.getfield 164, 3) := dk_180 0 164 (dk_at dksX0_tells_1 12 rfl rfl)
theorem dX0_tells_39 : decode cX0_tells 39 = .ok (.iload_n 3, 1) := dk_29 (dk_at dksX0_tells_1 15 rfl rfl)
theorem dX0_tells_40 : decode cX0_tells 40 = .ok (.iaload, 1) := dk_46 (dk_at dksX0_tells_1 16 rfl rfl)
theorem dX0_tells_41 : decode cX0_tells 41 = .ok (.aload_n 0, 1) := dk_42 (dk_at dksX0_tells_1 17 rfl rfl)
theorem dX0_tells_42 : decode cX0_tells 42 = .ok (.getfield 31, 3) := dk_180 0 31 (dk_at dksX0_tells_1 18 rfl rfl)
theorem dX0_tells_45 : decode cX0_tells 45 = .ok (.getfield 164, 3) := dk_180 0 164 (dk_at dksX0_tells_1 21 rfl rfl)
theorem dX0_tells_48 : decode cX0_tells 48 = .ok (.iload 4, 2) := dk_21 4 (dk_at dksX0_tells_2 0 rfl rfl)
theorem dX0_tells_50 : decode cX0_tells 50 = .ok (.iaload, 1) := dk_46 (dk_at dksX0_tells_2 2 rfl rfl)
theorem dX0_tells_51 : decode cX0_tells 51 = .ok (.if_icmp .eq 28, 3) := dk_159 0 28 (dk_at dksX0_tells_2 3 rfl rfl)
theorem dX0_tells_54 : decode cX0_tells 54 = .ok (.aload_n 0, 1) := dk_42 (dk_at dksX0_tells_2 6 rfl rfl)
theorem dX0_tells_55 : decode cX0_tells 55 = .ok (.getfield 31, 3) := dk_180 0 31 (dk_at dksX0_tells_2 7 rfl rfl)
theorem dX0_tells_58 : decode cX0_tells 58 = .ok (.getfield 164, 3) := dk_180 0 164 (dk_at dksX0_tells_2 10 rfl rfl)
theorem dX0_tells_61 : decode cX0_tells 61 = .ok (.iload_n 3, 1) := dk_29 (dk_at dksX0_tells_2 13 rfl rfl)
theorem dX0_tells_62 : decode cX0_tells 62 = .ok (.iaload, 1) := dk_46 (dk_at dksX0_tells_2 14 rfl rfl)
theorem dX0_tells_63 : decode cX0_tells 63 = .ok (.aload_n 0, 1) := dk_42 (dk_at dksX0_tells_2 15 rfl rfl)
theorem dX0_tells_64 : decode cX0_tells 64 = .ok (.getfield 31, 3) := dk_180 0 31 (dk_at dksX0_tells_2 16 rfl rfl)
theorem dX0_tells_67 : decode cX0_tells 67 = .ok (.getfield 164, 3) := dk_180 0 164 (dk_at dksX0_tells_2 19 rfl rfl)
theorem dX0_tells_70 : decode cX0_tells 70 = .ok (.iload 4, 2) := dk_21 4 (dk_at dksX0_tells_2 22 rfl rfl)
theorem dX0_tells_72 : decode cX0_tells 72 = .ok (.iaload, 1) := dk_46 (dk_at dksX0_tells_3 0 rfl rfl)
theorem dX0_tells_73 : decode cX0_tells 73 = .ok (.ixor, 1) := dk_130 (dk_at dksX0_tells_3 1 rfl rfl)
theorem dX0_tells_74 : decode cX0_tells 74 = .ok (.iload_n 1, 1) := dk_27 (dk_at dksX0_tells_3 2 rfl rfl)
theorem dX0_tells_75 : decode cX0_tells 75 = .ok (.iand, 1) := dk_126 (dk_at dksX0_tells_3 3 rfl rfl)
theorem dX0_tells_76 : decode cX0_tells 76 = .ok (.ifCond .eq 7, 3) := dk_153 0 7 (dk_at dksX0_tells_3 4 rfl rfl)
theorem dX0_tells_79 : decode cX0_tells 79 = .ok (.iconst 1, 1) := dk_4 (dk_at dksX0_tells_3 7 rfl rfl)
theorem dX0_tells_80 : decode cX0_tells 80 = .ok (.goto 4, 3) := dk_167 0 4 (dk_at dksX0_tells_3 8 rfl rfl)
theorem dX0_tells_83 : decode cX0_tells 83 = .ok (.iconst 0, 1) := dk_3 (dk_at dksX0_tells_3 11 rfl rfl)
theorem dX0_tells_84 : decode cX0_tells 84 = .ok (.istore_n 2, 1) := dk_61 (dk_at dksX0_tells_3 12 rfl rfl)
theorem dX0_tells_85 : decode cX0_tells 85 = .ok (.iinc 4 1, 3) := dk_132 4 1 (dk_at dksX0_tells_3 13 rfl rfl)
theorem dX0_tells_88 : decode cX0_tells 88 = .ok (.goto (-66), 3) := dk_167 255 190 (dk_at dksX0_tells_3 16 rfl rfl)
theorem dX0_tells_91 : decode cX0_tells 91 = .ok (.iinc 3 1, 3) := dk_132 3 1 (dk_at dksX0_tells_3 19 rfl rfl)
theorem dX0_tells_94 : decode cX0_tells 94 = .ok (.goto (-90), 3) := dk_167 255 166 (dk_at dksX0_tells_4 0 rfl rfl)
theorem dX0_tells_97 : decode cX0_tells 97 = .ok (.iload_n 2, 1) := dk_28 (dk_at dksX0_tells_4 3 rfl rfl)
theorem dX0_tells_98 : decode cX0_tells 98 = .ok (.ireturn, 1) := dk_172 (dk_at dksX0_tells_4 4 rfl rfl)
abbrev cX0_put : ByteArray := prog_1_method_48_code
def yX0_put : MethodName := ⟨RX0, "put", "(I)V"⟩
def dkwX0_put_0 : List UInt8 := [42, 180, 0, 55, 42, 180, 0, 121, 27, 79, 42, 89, 180, 0, 121, 4, 96, 181, 0, 121, 177]
abbrev dktX0_put_0 : List UInt8 := dkwX0_put_0 ++ []
theorem dksX0_put_0 : cX0_put.data.toList.drop 0 = dktX0_put_0 := by decide +kernel
theorem dX0_put_0 : decode cX0_put 0 = .ok (.aload_n 0, 1) := dk_42 (dk_at dksX0_put_0 0 rfl rfl)
theorem dX0_put_1 : decode cX0_put 1 = .ok (.getfield 55, 3) := dk_180 0 55 (dk_at dksX0_put_0 1 rfl rfl)
theorem dX0_put_4 : decode cX0_put 4 = .ok (.aload_n 0, 1) := dk_42 (dk_at dksX0_put_0 4 rfl rfl)
theorem dX0_put_5 : decode cX0_put 5 = .ok (.getfield 121, 3) := dk_180 0 121 (dk_at dksX0_put_0 5 rfl rfl)
theorem dX0_put_8 : decode cX0_put 8 = .ok (.iload_n 1, 1) := dk_27 (dk_at dksX0_put_0 8 rfl rfl)
theorem dX0_put_9 : decode cX0_put 9 = .ok (.iastore, 1) := dk_79 (dk_at dksX0_put_0 9 rfl rfl)
theorem dX0_put_10 : decode cX0_put 10 = .ok (.aload_n 0, 1) := dk_42 (dk_at dksX0_put_0 10 rfl rfl)
theorem dX0_put_11 : decode cX0_put 11 = .ok (.dup, 1) := dk_89 (dk_at dksX0_put_0 11 rfl rfl)
theorem dX0_put_12 : decode cX0_put 12 = .ok (.getfield 121, 3) := dk_180 0 121 (dk_at dksX0_put_0 12 rfl rfl)
theorem dX0_put_15 : decode cX0_put 15 = .ok (.iconst 1, 1) := dk_4 (dk_at dksX0_put_0 15 rfl rfl)
theorem dX0_put_16 : decode cX0_put 16 = .ok (.iadd, 1) := dk_96 (dk_at dksX0_put_0 16 rfl rfl)
theorem dX0_put_17 : decode cX0_put 17 = .ok (.putfield 121, 3) := dk_181 0 121 (dk_at dksX0_put_0 17 rfl rfl)
theorem dX0_put_20 : decode cX0_put 20 = .ok (.return_, 1) := dk_177 (dk_at dksX0_put_0 20 rfl rfl)
abbrev cX0_round : ByteArray := prog_1_method_50_code
def yX0_round : MethodName := ⟨RX0, "round", "(IIII)I"⟩
def dkwX0_round_5 : List UInt8 := [167, 0, 13, 21, 6, 42, 180, 0, 58, 21, 5, 46, 100, 172]
abbrev dktX0_round_5 : List UInt8 := dkwX0_round_5 ++ []
def dkwX0_round_4 : List UInt8 := [42, 21, 5, 28, 29, 182, 0, 236, 54, 5, 132, 6, 1, 167, 255, 224, 21, 4, 154, 0, 8, 21, 6]
abbrev dktX0_round_4 : List UInt8 := dkwX0_round_4 ++ dktX0_round_5
def dkwX0_round_3 : List UInt8 := [54, 5, 3, 54, 6, 42, 180, 0, 58, 21, 5, 46, 156, 0, 28, 42, 180, 0, 58, 21, 5, 21, 6, 79]
abbrev dktX0_round_3 : List UInt8 := dkwX0_round_3 ++ dktX0_round_4
def dkwX0_round_2 : List UInt8 := [42, 180, 0, 58, 21, 5, 2, 79, 132, 5, 1, 167, 255, 236, 42, 180, 0, 31, 180, 0, 164, 27, 46]
abbrev dktX0_round_2 : List UInt8 := dkwX0_round_2 ++ dktX0_round_3
def dkwX0_round_1 : List UInt8 := [21, 4, 3, 4, 184, 0, 150, 154, 0, 5, 2, 172, 3, 54, 5, 21, 5, 42, 182, 0, 157, 162, 0, 17]
abbrev dktX0_round_1 : List UInt8 := dkwX0_round_1 ++ dktX0_round_2
def dkwX0_round_0 : List UInt8 := [42, 27, 182, 0, 160, 153, 0, 28, 42, 28, 182, 0, 204, 153, 0, 20, 29, 184, 0, 207, 153, 0, 13]
abbrev dktX0_round_0 : List UInt8 := dkwX0_round_0 ++ dktX0_round_1
theorem dksX0_round_0 : cX0_round.data.toList.drop 0 = dktX0_round_0 := by decide +kernel
theorem dksX0_round_1 : cX0_round.data.toList.drop 23 = dktX0_round_1 := dk_seg dksX0_round_0 23 rfl rfl
theorem dksX0_round_2 : cX0_round.data.toList.drop 47 = dktX0_round_2 := dk_seg dksX0_round_1 24 rfl rfl
theorem dksX0_round_3 : cX0_round.data.toList.drop 70 = dktX0_round_3 := dk_seg dksX0_round_2 23 rfl rfl
theorem dksX0_round_4 : cX0_round.data.toList.drop 94 = dktX0_round_4 := dk_seg dksX0_round_3 24 rfl rfl
theorem dksX0_round_5 : cX0_round.data.toList.drop 117 = dktX0_round_5 := dk_seg dksX0_round_4 23 rfl rfl
theorem dX0_round_0 : decode cX0_round 0 = .ok (.aload_n 0, 1) := dk_42 (dk_at dksX0_round_0 0 rfl rfl)
theorem dX0_round_1 : decode cX0_round 1 = .ok (.iload_n 1, 1) := dk_27 (dk_at dksX0_round_0 1 rfl rfl)
theorem dX0_round_2 : decode cX0_round 2 = .ok (.invokevirtual 160, 3) := dk_182 0 160 (dk_at dksX0_round_0 2 rfl rfl)
theorem dX0_round_5 : decode cX0_round 5 = .ok (.ifCond .eq 28, 3) := dk_153 0 28 (dk_at dksX0_round_0 5 rfl rfl)
theorem dX0_round_8 : decode cX0_round 8 = .ok (.aload_n 0, 1) := dk_42 (dk_at dksX0_round_0 8 rfl rfl)
theorem dX0_round_9 : decode cX0_round 9 = .ok (.iload_n 2, 1) := dk_28 (dk_at dksX0_round_0 9 rfl rfl)
theorem dX0_round_10 : decode cX0_round 10 = .ok (.invokevirtual 204, 3) := dk_182 0 204 (dk_at dksX0_round_0 10 rfl rfl)
theorem dX0_round_13 : decode cX0_round 13 = .ok (.ifCond .eq 20, 3) := dk_153 0 20 (dk_at dksX0_round_0 13 rfl rfl)
theorem dX0_round_16 : decode cX0_round 16 = .ok (.iload_n 3, 1) := dk_29 (dk_at dksX0_round_0 16 rfl rfl)
theorem dX0_round_17 : decode cX0_round 17 = .ok (.invokestatic 207, 3) := dk_184 0 207 (dk_at dksX0_round_0 17 rfl rfl)
theorem dX0_round_20 : decode cX0_round 20 = .ok (.ifCond .eq 13, 3) := dk_153 0 13 (dk_at dksX0_round_0 20 rfl rfl)
theorem dX0_round_23 : decode cX0_round 23 = .ok (.iload 4, 2) := dk_21 4 (dk_at dksX0_round_1 0 rfl rfl)
theorem dX0_round_25 : decode cX0_round 25 = .ok (.iconst 0, 1) := dk_3 (dk_at dksX0_round_1 2 rfl rfl)
theorem dX0_round_26 : decode cX0_round 26 = .ok (.iconst 1, 1) := dk_4 (dk_at dksX0_round_1 3 rfl rfl)
theorem dX0_round_27 : decode cX0_round 27 = .ok (.invokestatic 150, 3) := dk_184 0 150 (dk_at dksX0_round_1 4 rfl rfl)
theorem dX0_round_30 : decode cX0_round 30 = .ok (.ifCond .ne 5, 3) := dk_154 0 5 (dk_at dksX0_round_1 7 rfl rfl)
theorem dX0_round_33 : decode cX0_round 33 = .ok (.iconst (-1), 1) := dk_2 (dk_at dksX0_round_1 10 rfl rfl)
theorem dX0_round_34 : decode cX0_round 34 = .ok (.ireturn, 1) := dk_172 (dk_at dksX0_round_1 11 rfl rfl)
theorem dX0_round_35 : decode cX0_round 35 = .ok (.iconst 0, 1) := dk_3 (dk_at dksX0_round_1 12 rfl rfl)
theorem dX0_round_36 : decode cX0_round 36 = .ok (.istore 5, 2) := dk_54 5 (dk_at dksX0_round_1 13 rfl rfl)
theorem dX0_round_38 : decode cX0_round 38 = .ok (.iload 5, 2) := dk_21 5 (dk_at dksX0_round_1 15 rfl rfl)
theorem dX0_round_40 : decode cX0_round 40 = .ok (.aload_n 0, 1) := dk_42 (dk_at dksX0_round_1 17 rfl rfl)
theorem dX0_round_41 : decode cX0_round 41 = .ok (.invokevirtual 157, 3) := dk_182 0 157 (dk_at dksX0_round_1 18 rfl rfl)
theorem dX0_round_44 : decode cX0_round 44 = .ok (.if_icmp .ge 17, 3) := dk_162 0 17 (dk_at dksX0_round_1 21 rfl rfl)
theorem dX0_round_47 : decode cX0_round 47 = .ok (.aload_n 0, 1) := dk_42 (dk_at dksX0_round_2 0 rfl rfl)
theorem dX0_round_48 : decode cX0_round 48 = .ok (.getfield 58, 3) := dk_180 0 58 (dk_at dksX0_round_2 1 rfl rfl)
theorem dX0_round_51 : decode cX0_round 51 = .ok (.iload 5, 2) := dk_21 5 (dk_at dksX0_round_2 4 rfl rfl)
theorem dX0_round_53 : decode cX0_round 53 = .ok (.iconst (-1), 1) := dk_2 (dk_at dksX0_round_2 6 rfl rfl)
theorem dX0_round_54 : decode cX0_round 54 = .ok (.iastore, 1) := dk_79 (dk_at dksX0_round_2 7 rfl rfl)
theorem dX0_round_55 : decode cX0_round 55 = .ok (.iinc 5 1, 3) := dk_132 5 1 (dk_at dksX0_round_2 8 rfl rfl)
theorem dX0_round_58 : decode cX0_round 58 = .ok (.goto (-20), 3) := dk_167 255 236 (dk_at dksX0_round_2 11 rfl rfl)
theorem dX0_round_61 : decode cX0_round 61 = .ok (.aload_n 0, 1) := dk_42 (dk_at dksX0_round_2 14 rfl rfl)
theorem dX0_round_62 : decode cX0_round 62 = .ok (.getfield 31, 3) := dk_180 0 31 (dk_at dksX0_round_2 15 rfl rfl)
theorem dX0_round_65 : decode cX0_round 65 = .ok (.getfield 164, 3) := dk_180 0 164 (dk_at dksX0_round_2 18 rfl rfl)
theorem dX0_round_68 : decode cX0_round 68 = .ok (.iload_n 1, 1) := dk_27 (dk_at dksX0_round_2 21 rfl rfl)
theorem dX0_round_69 : decode cX0_round 69 = .ok (.iaload, 1) := dk_46 (dk_at dksX0_round_2 22 rfl rfl)
theorem dX0_round_70 : decode cX0_round 70 = .ok (.istore 5, 2) := dk_54 5 (dk_at dksX0_round_3 0 rfl rfl)
theorem dX0_round_72 : decode cX0_round 72 = .ok (.iconst 0, 1) := dk_3 (dk_at dksX0_round_3 2 rfl rfl)
theorem dX0_round_73 : decode cX0_round 73 = .ok (.istore 6, 2) := dk_54 6 (dk_at dksX0_round_3 3 rfl rfl)
theorem dX0_round_75 : decode cX0_round 75 = .ok (.aload_n 0, 1) := dk_42 (dk_at dksX0_round_3 5 rfl rfl)
theorem dX0_round_76 : decode cX0_round 76 = .ok (.getfield 58, 3) := dk_180 0 58 (dk_at dksX0_round_3 6 rfl rfl)
theorem dX0_round_79 : decode cX0_round 79 = .ok (.iload 5, 2) := dk_21 5 (dk_at dksX0_round_3 9 rfl rfl)
theorem dX0_round_81 : decode cX0_round 81 = .ok (.iaload, 1) := dk_46 (dk_at dksX0_round_3 11 rfl rfl)
theorem dX0_round_82 : decode cX0_round 82 = .ok (.ifCond .ge 28, 3) := dk_156 0 28 (dk_at dksX0_round_3 12 rfl rfl)
theorem dX0_round_85 : decode cX0_round 85 = .ok (.aload_n 0, 1) := dk_42 (dk_at dksX0_round_3 15 rfl rfl)
theorem dX0_round_86 : decode cX0_round 86 = .ok (.getfield 58, 3) := dk_180 0 58 (dk_at dksX0_round_3 16 rfl rfl)
theorem dX0_round_89 : decode cX0_round 89 = .ok (.iload 5, 2) := dk_21 5 (dk_at dksX0_round_3 19 rfl rfl)
theorem dX0_round_91 : decode cX0_round 91 = .ok (.iload 6, 2) := dk_21 6 (dk_at dksX0_round_3 21 rfl rfl)
theorem dX0_round_93 : decode cX0_round 93 = .ok (.iastore, 1) := dk_79 (dk_at dksX0_round_3 23 rfl rfl)
theorem dX0_round_94 : decode cX0_round 94 = .ok (.aload_n 0, 1) := dk_42 (dk_at dksX0_round_4 0 rfl rfl)
theorem dX0_round_95 : decode cX0_round 95 = .ok (.iload 5, 2) := dk_21 5 (dk_at dksX0_round_4 1 rfl rfl)
theorem dX0_round_97 : decode cX0_round 97 = .ok (.iload_n 2, 1) := dk_28 (dk_at dksX0_round_4 3 rfl rfl)
theorem dX0_round_98 : decode cX0_round 98 = .ok (.iload_n 3, 1) := dk_29 (dk_at dksX0_round_4 4 rfl rfl)
theorem dX0_round_99 : decode cX0_round 99 = .ok (.invokevirtual 236, 3) := dk_182 0 236 (dk_at dksX0_round_4 5 rfl rfl)
theorem dX0_round_102 : decode cX0_round 102 = .ok (.istore 5, 2) := dk_54 5 (dk_at dksX0_round_4 8 rfl rfl)
theorem dX0_round_104 : decode cX0_round 104 = .ok (.iinc 6 1, 3) := dk_132 6 1 (dk_at dksX0_round_4 10 rfl rfl)
theorem dX0_round_107 : decode cX0_round 107 = .ok (.goto (-32), 3) := dk_167 255 224 (dk_at dksX0_round_4 13 rfl rfl)
theorem dX0_round_110 : decode cX0_round 110 = .ok (.iload 4, 2) := dk_21 4 (dk_at dksX0_round_4 16 rfl rfl)
theorem dX0_round_112 : decode cX0_round 112 = .ok (.ifCond .ne 8, 3) := dk_154 0 8 (dk_at dksX0_round_4 18 rfl rfl)
theorem dX0_round_115 : decode cX0_round 115 = .ok (.iload 6, 2) := dk_21 6 (dk_at dksX0_round_4 21 rfl rfl)
theorem dX0_round_117 : decode cX0_round 117 = .ok (.goto 13, 3) := dk_167 0 13 (dk_at dksX0_round_5 0 rfl rfl)
theorem dX0_round_120 : decode cX0_round 120 = .ok (.iload 6, 2) := dk_21 6 (dk_at dksX0_round_5 3 rfl rfl)
theorem dX0_round_122 : decode cX0_round 122 = .ok (.aload_n 0, 1) := dk_42 (dk_at dksX0_round_5 5 rfl rfl)
theorem dX0_round_123 : decode cX0_round 123 = .ok (.getfield 58, 3) := dk_180 0 58 (dk_at dksX0_round_5 6 rfl rfl)
theorem dX0_round_126 : decode cX0_round 126 = .ok (.iload 5, 2) := dk_21 5 (dk_at dksX0_round_5 9 rfl rfl)
theorem dX0_round_128 : decode cX0_round 128 = .ok (.iaload, 1) := dk_46 (dk_at dksX0_round_5 11 rfl rfl)
theorem dX0_round_129 : decode cX0_round 129 = .ok (.isub, 1) := dk_100 (dk_at dksX0_round_5 12 rfl rfl)
theorem dX0_round_130 : decode cX0_round 130 = .ok (.ireturn, 1) := dk_172 (dk_at dksX0_round_5 13 rfl rfl)
abbrev cX0_steady : ByteArray := prog_1_method_51_code
def yX0_steady : MethodName := ⟨RX0, "steady", "(III)I"⟩
def dkwX0_steady_4 : List UInt8 := [54, 5, 132, 6, 1, 167, 255, 192, 29, 154, 0, 8, 21, 4, 167, 0, 5, 21, 5, 172]
abbrev dktX0_steady_4 : List UInt8 := dkwX0_steady_4 ++ []
def dkwX0_steady_3 : List UInt8 := [155, 0, 16, 21, 6, 184, 0, 240, 21, 5, 184, 0, 240, 164, 0, 8, 21, 6, 167, 0, 5, 21, 5]
abbrev dktX0_steady_3 : List UInt8 := dkwX0_steady_3 ++ dktX0_steady_4
def dkwX0_steady_2 : List UInt8 := [27, 28, 182, 0, 236, 27, 28, 182, 0, 236, 21, 6, 159, 0, 6, 167, 0, 33, 132, 4, 1, 21, 5]
abbrev dktX0_steady_2 : List UInt8 := dkwX0_steady_2 ++ dktX0_steady_3
def dkwX0_steady_1 : List UInt8 := [2, 172, 3, 54, 4, 2, 54, 5, 3, 54, 6, 21, 6, 42, 182, 0, 157, 162, 0, 61, 42, 42, 21, 6]
abbrev dktX0_steady_1 : List UInt8 := dkwX0_steady_1 ++ dktX0_steady_2
def dkwX0_steady_0 : List UInt8 := [42, 27, 182, 0, 204, 153, 0, 19, 28, 184, 0, 207, 153, 0, 12, 29, 3, 4, 184, 0, 150, 154, 0, 5]
abbrev dktX0_steady_0 : List UInt8 := dkwX0_steady_0 ++ dktX0_steady_1
theorem dksX0_steady_0 : cX0_steady.data.toList.drop 0 = dktX0_steady_0 := by decide +kernel
theorem dksX0_steady_1 : cX0_steady.data.toList.drop 24 = dktX0_steady_1 := dk_seg dksX0_steady_0 24 rfl rfl
theorem dksX0_steady_2 : cX0_steady.data.toList.drop 48 = dktX0_steady_2 := dk_seg dksX0_steady_1 24 rfl rfl
theorem dksX0_steady_3 : cX0_steady.data.toList.drop 71 = dktX0_steady_3 := dk_seg dksX0_steady_2 23 rfl rfl
theorem dksX0_steady_4 : cX0_steady.data.toList.drop 94 = dktX0_steady_4 := dk_seg dksX0_steady_3 23 rfl rfl
theorem dX0_steady_0 : decode cX0_steady 0 = .ok (.aload_n 0, 1) := dk_42 (dk_at dksX0_steady_0 0 rfl rfl)
theorem dX0_steady_1 : decode cX0_steady 1 = .ok (.iload_n 1, 1) := dk_27 (dk_at dksX0_steady_0 1 rfl rfl)
theorem dX0_steady_2 : decode cX0_steady 2 = .ok (.invokevirtual 204, 3) := dk_182 0 204 (dk_at dksX0_steady_0 2 rfl rfl)
theorem dX0_steady_5 : decode cX0_steady 5 = .ok (.ifCond .eq 19, 3) := dk_153 0 19 (dk_at dksX0_steady_0 5 rfl rfl)
theorem dX0_steady_8 : decode cX0_steady 8 = .ok (.iload_n 2, 1) := dk_28 (dk_at dksX0_steady_0 8 rfl rfl)
theorem dX0_steady_9 : decode cX0_steady 9 = .ok (.invokestatic 207, 3) := dk_184 0 207 (dk_at dksX0_steady_0 9 rfl rfl)
theorem dX0_steady_12 : decode cX0_steady 12 = .ok (.ifCond .eq 12, 3) := dk_153 0 12 (dk_at dksX0_steady_0 12 rfl rfl)
theorem dX0_steady_15 : decode cX0_steady 15 = .ok (.iload_n 3, 1) := dk_29 (dk_at dksX0_steady_0 15 rfl rfl)
theorem dX0_steady_16 : decode cX0_steady 16 = .ok (.iconst 0, 1) := dk_3 (dk_at dksX0_steady_0 16 rfl rfl)
theorem dX0_steady_17 : decode cX0_steady 17 = .ok (.iconst 1, 1) := dk_4 (dk_at dksX0_steady_0 17 rfl rfl)
theorem dX0_steady_18 : decode cX0_steady 18 = .ok (.invokestatic 150, 3) := dk_184 0 150 (dk_at dksX0_steady_0 18 rfl rfl)
theorem dX0_steady_21 : decode cX0_steady 21 = .ok (.ifCond .ne 5, 3) := dk_154 0 5 (dk_at dksX0_steady_0 21 rfl rfl)
theorem dX0_steady_24 : decode cX0_steady 24 = .ok (.iconst (-1), 1) := dk_2 (dk_at dksX0_steady_1 0 rfl rfl)
theorem dX0_steady_25 : decode cX0_steady 25 = .ok (.ireturn, 1) := dk_172 (dk_at dksX0_steady_1 1 rfl rfl)
theorem dX0_steady_26 : decode cX0_steady 26 = .ok (.iconst 0, 1) := dk_3 (dk_at dksX0_steady_1 2 rfl rfl)
theorem dX0_steady_27 : decode cX0_steady 27 = .ok (.istore 4, 2) := dk_54 4 (dk_at dksX0_steady_1 3 rfl rfl)
theorem dX0_steady_29 : decode cX0_steady 29 = .ok (.iconst (-1), 1) := dk_2 (dk_at dksX0_steady_1 5 rfl rfl)
theorem dX0_steady_30 : decode cX0_steady 30 = .ok (.istore 5, 2) := dk_54 5 (dk_at dksX0_steady_1 6 rfl rfl)
theorem dX0_steady_32 : decode cX0_steady 32 = .ok (.iconst 0, 1) := dk_3 (dk_at dksX0_steady_1 8 rfl rfl)
theorem dX0_steady_33 : decode cX0_steady 33 = .ok (.istore 6, 2) := dk_54 6 (dk_at dksX0_steady_1 9 rfl rfl)
theorem dX0_steady_35 : decode cX0_steady 35 = .ok (.iload 6, 2) := dk_21 6 (dk_at dksX0_steady_1 11 rfl rfl)
theorem dX0_steady_37 : decode cX0_steady 37 = .ok (.aload_n 0, 1) := dk_42 (dk_at dksX0_steady_1 13 rfl rfl)
theorem dX0_steady_38 : decode cX0_steady 38 = .ok (.invokevirtual 157, 3) := dk_182 0 157 (dk_at dksX0_steady_1 14 rfl rfl)
theorem dX0_steady_41 : decode cX0_steady 41 = .ok (.if_icmp .ge 61, 3) := dk_162 0 61 (dk_at dksX0_steady_1 17 rfl rfl)
theorem dX0_steady_44 : decode cX0_steady 44 = .ok (.aload_n 0, 1) := dk_42 (dk_at dksX0_steady_1 20 rfl rfl)
theorem dX0_steady_45 : decode cX0_steady 45 = .ok (.aload_n 0, 1) := dk_42 (dk_at dksX0_steady_1 21 rfl rfl)
theorem dX0_steady_46 : decode cX0_steady 46 = .ok (.iload 6, 2) := dk_21 6 (dk_at dksX0_steady_1 22 rfl rfl)
theorem dX0_steady_48 : decode cX0_steady 48 = .ok (.iload_n 1, 1) := dk_27 (dk_at dksX0_steady_2 0 rfl rfl)
theorem dX0_steady_49 : decode cX0_steady 49 = .ok (.iload_n 2, 1) := dk_28 (dk_at dksX0_steady_2 1 rfl rfl)
theorem dX0_steady_50 : decode cX0_steady 50 = .ok (.invokevirtual 236, 3) := dk_182 0 236 (dk_at dksX0_steady_2 2 rfl rfl)
theorem dX0_steady_53 : decode cX0_steady 53 = .ok (.iload_n 1, 1) := dk_27 (dk_at dksX0_steady_2 5 rfl rfl)
theorem dX0_steady_54 : decode cX0_steady 54 = .ok (.iload_n 2, 1) := dk_28 (dk_at dksX0_steady_2 6 rfl rfl)
theorem dX0_steady_55 : decode cX0_steady 55 = .ok (.invokevirtual 236, 3) := dk_182 0 236 (dk_at dksX0_steady_2 7 rfl rfl)
theorem dX0_steady_58 : decode cX0_steady 58 = .ok (.iload 6, 2) := dk_21 6 (dk_at dksX0_steady_2 10 rfl rfl)
theorem dX0_steady_60 : decode cX0_steady 60 = .ok (.if_icmp .eq 6, 3) := dk_159 0 6 (dk_at dksX0_steady_2 12 rfl rfl)
theorem dX0_steady_63 : decode cX0_steady 63 = .ok (.goto 33, 3) := dk_167 0 33 (dk_at dksX0_steady_2 15 rfl rfl)
theorem dX0_steady_66 : decode cX0_steady 66 = .ok (.iinc 4 1, 3) := dk_132 4 1 (dk_at dksX0_steady_2 18 rfl rfl)
theorem dX0_steady_69 : decode cX0_steady 69 = .ok (.iload 5, 2) := dk_21 5 (dk_at dksX0_steady_2 21 rfl rfl)
theorem dX0_steady_71 : decode cX0_steady 71 = .ok (.ifCond .lt 16, 3) := dk_155 0 16 (dk_at dksX0_steady_3 0 rfl rfl)
theorem dX0_steady_74 : decode cX0_steady 74 = .ok (.iload 6, 2) := dk_21 6 (dk_at dksX0_steady_3 3 rfl rfl)
theorem dX0_steady_76 : decode cX0_steady 76 = .ok (.invokestatic 240, 3) := dk_184 0 240 (dk_at dksX0_steady_3 5 rfl rfl)
theorem dX0_steady_79 : decode cX0_steady 79 = .ok (.iload 5, 2) := dk_21 5 (dk_at dksX0_steady_3 8 rfl rfl)
theorem dX0_steady_81 : decode cX0_steady 81 = .ok (.invokestatic 240, 3) := dk_184 0 240 (dk_at dksX0_steady_3 10 rfl rfl)
theorem dX0_steady_84 : decode cX0_steady 84 = .ok (.if_icmp .le 8, 3) := dk_164 0 8 (dk_at dksX0_steady_3 13 rfl rfl)
theorem dX0_steady_87 : decode cX0_steady 87 = .ok (.iload 6, 2) := dk_21 6 (dk_at dksX0_steady_3 16 rfl rfl)
theorem dX0_steady_89 : decode cX0_steady 89 = .ok (.goto 5, 3) := dk_167 0 5 (dk_at dksX0_steady_3 18 rfl rfl)
theorem dX0_steady_92 : decode cX0_steady 92 = .ok (.iload 5, 2) := dk_21 5 (dk_at dksX0_steady_3 21 rfl rfl)
theorem dX0_steady_94 : decode cX0_steady 94 = .ok (.istore 5, 2) := dk_54 5 (dk_at dksX0_steady_4 0 rfl rfl)
theorem dX0_steady_96 : decode cX0_steady 96 = .ok (.iinc 6 1, 3) := dk_132 6 1 (dk_at dksX0_steady_4 2 rfl rfl)
theorem dX0_steady_99 : decode cX0_steady 99 = .ok (.goto (-64), 3) := dk_167 255 192 (dk_at dksX0_steady_4 5 rfl rfl)
theorem dX0_steady_102 : decode cX0_steady 102 = .ok (.iload_n 3, 1) := dk_29 (dk_at dksX0_steady_4 8 rfl rfl)
theorem dX0_steady_103 : decode cX0_steady 103 = .ok (.ifCond .ne 8, 3) := dk_154 0 8 (dk_at dksX0_steady_4 9 rfl rfl)
theorem dX0_steady_106 : decode cX0_steady 106 = .ok (.iload 4, 2) := dk_21 4 (dk_at dksX0_steady_4 12 rfl rfl)
theorem dX0_steady_108 : decode cX0_steady 108 = .ok (.goto 5, 3) := dk_167 0 5 (dk_at dksX0_steady_4 14 rfl rfl)
theorem dX0_steady_111 : decode cX0_steady 111 = .ok (.iload 5, 2) := dk_21 5 (dk_at dksX0_steady_4 17 rfl rfl)
theorem dX0_steady_113 : decode cX0_steady 113 = .ok (.ireturn, 1) := dk_172 (dk_at dksX0_steady_4 19 rfl rfl)
abbrev cX0_against : ByteArray := prog_1_method_52_code
def yX0_against : MethodName := ⟨RX0, "against", "(III)I"⟩
def dkwX0_against_3 : List UInt8 := [132, 5, 1, 167, 255, 215, 21, 4, 172]
abbrev dktX0_against_3 : List UInt8 := dkwX0_against_3 ++ []
def dkwX0_against_2 : List UInt8 := [182, 0, 236, 42, 21, 5, 28, 29, 182, 0, 236, 159, 0, 7, 4, 167, 0, 4, 3, 96, 54, 4]
abbrev dktX0_against_2 : List UInt8 := dkwX0_against_2 ++ dktX0_against_3
def dkwX0_against_1 : List UInt8 := [172, 3, 54, 4, 3, 54, 5, 21, 5, 42, 182, 0, 157, 162, 0, 38, 21, 4, 42, 21, 5, 27, 29]
abbrev dktX0_against_1 : List UInt8 := dkwX0_against_1 ++ dktX0_against_2
def dkwX0_against_0 : List UInt8 := [42, 27, 182, 0, 204, 153, 0, 18, 42, 28, 182, 0, 204, 153, 0, 10, 29, 184, 0, 207, 154, 0, 5, 2]
abbrev dktX0_against_0 : List UInt8 := dkwX0_against_0 ++ dktX0_against_1
theorem dksX0_against_0 : cX0_against.data.toList.drop 0 = dktX0_against_0 := by decide +kernel
theorem dksX0_against_1 : cX0_against.data.toList.drop 24 = dktX0_against_1 := dk_seg dksX0_against_0 24 rfl rfl
theorem dksX0_against_2 : cX0_against.data.toList.drop 47 = dktX0_against_2 := dk_seg dksX0_against_1 23 rfl rfl
theorem dksX0_against_3 : cX0_against.data.toList.drop 69 = dktX0_against_3 := dk_seg dksX0_against_2 22 rfl rfl
theorem dX0_against_0 : decode cX0_against 0 = .ok (.aload_n 0, 1) := dk_42 (dk_at dksX0_against_0 0 rfl rfl)
theorem dX0_against_1 : decode cX0_against 1 = .ok (.iload_n 1, 1) := dk_27 (dk_at dksX0_against_0 1 rfl rfl)
theorem dX0_against_2 : decode cX0_against 2 = .ok (.invokevirtual 204, 3) := dk_182 0 204 (dk_at dksX0_against_0 2 rfl rfl)
theorem dX0_against_5 : decode cX0_against 5 = .ok (.ifCond .eq 18, 3) := dk_153 0 18 (dk_at dksX0_against_0 5 rfl rfl)
theorem dX0_against_8 : decode cX0_against 8 = .ok (.aload_n 0, 1) := dk_42 (dk_at dksX0_against_0 8 rfl rfl)
theorem dX0_against_9 : decode cX0_against 9 = .ok (.iload_n 2, 1) := dk_28 (dk_at dksX0_against_0 9 rfl rfl)
theorem dX0_against_10 : decode cX0_against 10 = .ok (.invokevirtual 204, 3) := dk_182 0 204 (dk_at dksX0_against_0 10 rfl rfl)
theorem dX0_against_13 : decode cX0_against 13 = .ok (.ifCond .eq 10, 3) := dk_153 0 10 (dk_at dksX0_against_0 13 rfl rfl)
theorem dX0_against_16 : decode cX0_against 16 = .ok (.iload_n 3, 1) := dk_29 (dk_at dksX0_against_0 16 rfl rfl)
theorem dX0_against_17 : decode cX0_against 17 = .ok (.invokestatic 207, 3) := dk_184 0 207 (dk_at dksX0_against_0 17 rfl rfl)
theorem dX0_against_20 : decode cX0_against 20 = .ok (.ifCond .ne 5, 3) := dk_154 0 5 (dk_at dksX0_against_0 20 rfl rfl)
theorem dX0_against_23 : decode cX0_against 23 = .ok (.iconst (-1), 1) := dk_2 (dk_at dksX0_against_0 23 rfl rfl)
theorem dX0_against_24 : decode cX0_against 24 = .ok (.ireturn, 1) := dk_172 (dk_at dksX0_against_1 0 rfl rfl)
theorem dX0_against_25 : decode cX0_against 25 = .ok (.iconst 0, 1) := dk_3 (dk_at dksX0_against_1 1 rfl rfl)
theorem dX0_against_26 : decode cX0_against 26 = .ok (.istore 4, 2) := dk_54 4 (dk_at dksX0_against_1 2 rfl rfl)
theorem dX0_against_28 : decode cX0_against 28 = .ok (.iconst 0, 1) := dk_3 (dk_at dksX0_against_1 4 rfl rfl)
theorem dX0_against_29 : decode cX0_against 29 = .ok (.istore 5, 2) := dk_54 5 (dk_at dksX0_against_1 5 rfl rfl)
theorem dX0_against_31 : decode cX0_against 31 = .ok (.iload 5, 2) := dk_21 5 (dk_at dksX0_against_1 7 rfl rfl)
theorem dX0_against_33 : decode cX0_against 33 = .ok (.aload_n 0, 1) := dk_42 (dk_at dksX0_against_1 9 rfl rfl)
theorem dX0_against_34 : decode cX0_against 34 = .ok (.invokevirtual 157, 3) := dk_182 0 157 (dk_at dksX0_against_1 10 rfl rfl)
theorem dX0_against_37 : decode cX0_against 37 = .ok (.if_icmp .ge 38, 3) := dk_162 0 38 (dk_at dksX0_against_1 13 rfl rfl)
theorem dX0_against_40 : decode cX0_against 40 = .ok (.iload 4, 2) := dk_21 4 (dk_at dksX0_against_1 16 rfl rfl)
theorem dX0_against_42 : decode cX0_against 42 = .ok (.aload_n 0, 1) := dk_42 (dk_at dksX0_against_1 18 rfl rfl)
theorem dX0_against_43 : decode cX0_against 43 = .ok (.iload 5, 2) := dk_21 5 (dk_at dksX0_against_1 19 rfl rfl)
theorem dX0_against_45 : decode cX0_against 45 = .ok (.iload_n 1, 1) := dk_27 (dk_at dksX0_against_1 21 rfl rfl)
theorem dX0_against_46 : decode cX0_against 46 = .ok (.iload_n 3, 1) := dk_29 (dk_at dksX0_against_1 22 rfl rfl)
theorem dX0_against_47 : decode cX0_against 47 = .ok (.invokevirtual 236, 3) := dk_182 0 236 (dk_at dksX0_against_2 0 rfl rfl)
theorem dX0_against_50 : decode cX0_against 50 = .ok (.aload_n 0, 1) := dk_42 (dk_at dksX0_against_2 3 rfl rfl)
theorem dX0_against_51 : decode cX0_against 51 = .ok (.iload 5, 2) := dk_21 5 (dk_at dksX0_against_2 4 rfl rfl)
theorem dX0_against_53 : decode cX0_against 53 = .ok (.iload_n 2, 1) := dk_28 (dk_at dksX0_against_2 6 rfl rfl)
theorem dX0_against_54 : decode cX0_against 54 = .ok (.iload_n 3, 1) := dk_29 (dk_at dksX0_against_2 7 rfl rfl)
theorem dX0_against_55 : decode cX0_against 55 = .ok (.invokevirtual 236, 3) := dk_182 0 236 (dk_at dksX0_against_2 8 rfl rfl)
theorem dX0_against_58 : decode cX0_against 58 = .ok (.if_icmp .eq 7, 3) := dk_159 0 7 (dk_at dksX0_against_2 11 rfl rfl)
theorem dX0_against_61 : decode cX0_against 61 = .ok (.iconst 1, 1) := dk_4 (dk_at dksX0_against_2 14 rfl rfl)
theorem dX0_against_62 : decode cX0_against 62 = .ok (.goto 4, 3) := dk_167 0 4 (dk_at dksX0_against_2 15 rfl rfl)
theorem dX0_against_65 : decode cX0_against 65 = .ok (.iconst 0, 1) := dk_3 (dk_at dksX0_against_2 18 rfl rfl)
theorem dX0_against_66 : decode cX0_against 66 = .ok (.iadd, 1) := dk_96 (dk_at dksX0_against_2 19 rfl rfl)
theorem dX0_against_67 : decode cX0_against 67 = .ok (.istore 4, 2) := dk_54 4 (dk_at dksX0_against_2 20 rfl rfl)
theorem dX0_against_69 : decode cX0_against 69 = .ok (.iinc 5 1, 3) := dk_132 5 1 (dk_at dksX0_against_3 0 rfl rfl)
theorem dX0_against_72 : decode cX0_against 72 = .ok (.goto (-41), 3) := dk_167 255 215 (dk_at dksX0_against_3 3 rfl rfl)
theorem dX0_against_75 : decode cX0_against 75 = .ok (.iload 4, 2) := dk_21 4 (dk_at dksX0_against_3 6 rfl rfl)
theorem dX0_against_77 : decode cX0_against 77 = .ok (.ireturn, 1) := dk_172 (dk_at dksX0_against_3 8 rfl rfl)
abbrev cX0_wax : ByteArray := prog_1_method_54_code
def yX0_wax : MethodName := ⟨RX0, "wax", "(I)I"⟩
def dkwX0_wax_9 : List UInt8 := [132, 5, 255, 167, 255, 170, 29, 172]
abbrev dktX0_wax_9 : List UInt8 := dkwX0_wax_9 ++ []
def dkwX0_wax_8 : List UInt8 := [108, 104, 21, 6, 7, 112, 96, 182, 1, 11, 42, 180, 0, 63, 21, 6, 50, 21, 4, 46, 54, 4]
abbrev dktX0_wax_8 : List UInt8 := dkwX0_wax_8 ++ dktX0_wax_9
def dkwX0_wax_7 : List UInt8 := [180, 0, 66, 21, 5, 50, 21, 4, 46, 159, 0, 9, 132, 6, 1, 167, 255, 213, 42, 16, 10, 21, 6, 7]
abbrev dktX0_wax_7 : List UInt8 := dkwX0_wax_7 ++ dktX0_wax_8
def dkwX0_wax_6 : List UInt8 := [96, 42, 180, 0, 66, 21, 5, 4, 100, 50, 42, 180, 0, 63, 21, 6, 50, 21, 4, 46, 46, 96, 42]
abbrev dktX0_wax_6 : List UInt8 := dkwX0_wax_6 ++ dktX0_wax_7
def dkwX0_wax_5 : List UInt8 := [180, 0, 164, 28, 46, 54, 4, 7, 54, 5, 21, 4, 27, 159, 0, 86, 3, 54, 6, 4, 21, 6, 7, 112]
abbrev dktX0_wax_5 : List UInt8 := dkwX0_wax_5 ++ dktX0_wax_6
def dkwX0_wax_4 : List UInt8 := [28, 46, 46, 62, 29, 19, 1, 7, 161, 0, 5, 2, 172, 42, 28, 182, 1, 11, 42, 180, 0, 31]
abbrev dktX0_wax_4 : List UInt8 := dkwX0_wax_4 ++ dktX0_wax_5
def dkwX0_wax_3 : List UInt8 := [167, 0, 4, 28, 61, 132, 3, 1, 167, 255, 201, 42, 180, 0, 66, 7, 50, 42, 180, 0, 31, 180, 0, 164]
abbrev dktX0_wax_3 : List UInt8 := dkwX0_wax_3 ++ dktX0_wax_4
def dkwX0_wax_2 : List UInt8 := [29, 46, 46, 42, 180, 0, 66, 7, 50, 42, 180, 0, 31, 180, 0, 164, 28, 46, 46, 162, 0, 7, 29]
abbrev dktX0_wax_2 : List UInt8 := dkwX0_wax_2 ++ dktX0_wax_3
def dkwX0_wax_1 : List UInt8 := [29, 42, 180, 0, 31, 180, 0, 154, 162, 0, 50, 42, 180, 0, 66, 7, 50, 42, 180, 0, 31, 180, 0, 164]
abbrev dktX0_wax_1 : List UInt8 := dkwX0_wax_1 ++ dktX0_wax_2
def dkwX0_wax_0 : List UInt8 := [42, 3, 181, 0, 121, 42, 27, 182, 0, 192, 154, 0, 5, 2, 172, 42, 27, 182, 1, 19, 3, 61, 4, 62]
abbrev dktX0_wax_0 : List UInt8 := dkwX0_wax_0 ++ dktX0_wax_1
theorem dksX0_wax_0 : cX0_wax.data.toList.drop 0 = dktX0_wax_0 := by decide +kernel
theorem dksX0_wax_1 : cX0_wax.data.toList.drop 24 = dktX0_wax_1 := dk_seg dksX0_wax_0 24 rfl rfl
theorem dksX0_wax_2 : cX0_wax.data.toList.drop 48 = dktX0_wax_2 := dk_seg dksX0_wax_1 24 rfl rfl
theorem dksX0_wax_3 : cX0_wax.data.toList.drop 71 = dktX0_wax_3 := dk_seg dksX0_wax_2 23 rfl rfl
theorem dksX0_wax_4 : cX0_wax.data.toList.drop 95 = dktX0_wax_4 := dk_seg dksX0_wax_3 24 rfl rfl
theorem dksX0_wax_5 : cX0_wax.data.toList.drop 117 = dktX0_wax_5 := dk_seg dksX0_wax_4 22 rfl rfl
theorem dksX0_wax_6 : cX0_wax.data.toList.drop 141 = dktX0_wax_6 := dk_seg dksX0_wax_5 24 rfl rfl
theorem dksX0_wax_7 : cX0_wax.data.toList.drop 164 = dktX0_wax_7 := dk_seg dksX0_wax_6 23 rfl rfl
theorem dksX0_wax_8 : cX0_wax.data.toList.drop 188 = dktX0_wax_8 := dk_seg dksX0_wax_7 24 rfl rfl
theorem dksX0_wax_9 : cX0_wax.data.toList.drop 210 = dktX0_wax_9 := dk_seg dksX0_wax_8 22 rfl rfl
theorem dX0_wax_0 : decode cX0_wax 0 = .ok (.aload_n 0, 1) := dk_42 (dk_at dksX0_wax_0 0 rfl rfl)
theorem dX0_wax_1 : decode cX0_wax 1 = .ok (.iconst 0, 1) := dk_3 (dk_at dksX0_wax_0 1 rfl rfl)
theorem dX0_wax_2 : decode cX0_wax 2 = .ok (.putfield 121, 3) := dk_181 0 121 (dk_at dksX0_wax_0 2 rfl rfl)
theorem dX0_wax_5 : decode cX0_wax 5 = .ok (.aload_n 0, 1) := dk_42 (dk_at dksX0_wax_0 5 rfl rfl)
theorem dX0_wax_6 : decode cX0_wax 6 = .ok (.iload_n 1, 1) := dk_27 (dk_at dksX0_wax_0 6 rfl rfl)
theorem dX0_wax_7 : decode cX0_wax 7 = .ok (.invokevirtual 192, 3) := dk_182 0 192 (dk_at dksX0_wax_0 7 rfl rfl)
theorem dX0_wax_10 : decode cX0_wax 10 = .ok (.ifCond .ne 5, 3) := dk_154 0 5 (dk_at dksX0_wax_0 10 rfl rfl)
theorem dX0_wax_13 : decode cX0_wax 13 = .ok (.iconst (-1), 1) := dk_2 (dk_at dksX0_wax_0 13 rfl rfl)
theorem dX0_wax_14 : decode cX0_wax 14 = .ok (.ireturn, 1) := dk_172 (dk_at dksX0_wax_0 14 rfl rfl)
theorem dX0_wax_15 : decode cX0_wax 15 = .ok (.aload_n 0, 1) := dk_42 (dk_at dksX0_wax_0 15 rfl rfl)
theorem dX0_wax_16 : decode cX0_wax 16 = .ok (.iload_n 1, 1) := dk_27 (dk_at dksX0_wax_0 16 rfl rfl)
theorem dX0_wax_17 : decode cX0_wax 17 = .ok (.invokevirtual 275, 3) := dk_182 1 19 (dk_at dksX0_wax_0 17 rfl rfl)
theorem dX0_wax_20 : decode cX0_wax 20 = .ok (.iconst 0, 1) := dk_3 (dk_at dksX0_wax_0 20 rfl rfl)
theorem dX0_wax_21 : decode cX0_wax 21 = .ok (.istore_n 2, 1) := dk_61 (dk_at dksX0_wax_0 21 rfl rfl)
theorem dX0_wax_22 : decode cX0_wax 22 = .ok (.iconst 1, 1) := dk_4 (dk_at dksX0_wax_0 22 rfl rfl)
theorem dX0_wax_23 : decode cX0_wax 23 = .ok (.istore_n 3, 1) := dk_62 (dk_at dksX0_wax_0 23 rfl rfl)
theorem dX0_wax_24 : decode cX0_wax 24 = .ok (.iload_n 3, 1) := dk_29 (dk_at dksX0_wax_1 0 rfl rfl)
theorem dX0_wax_25 : decode cX0_wax 25 = .ok (.aload_n 0, 1) := dk_42 (dk_at dksX0_wax_1 1 rfl rfl)
theorem dX0_wax_26 : decode cX0_wax 26 = .ok (.getfield 31, 3) := dk_180 0 31 (dk_at dksX0_wax_1 2 rfl rfl)
theorem dX0_wax_29 : decode cX0_wax 29 = .ok (.getfield 154, 3) := dk_180 0 154 (dk_at dksX0_wax_1 5 rfl rfl)
theorem dX0_wax_32 : decode cX0_wax 32 = .ok (.if_icmp .ge 50, 3) := dk_162 0 50 (dk_at dksX0_wax_1 8 rfl rfl)
theorem dX0_wax_35 : decode cX0_wax 35 = .ok (.aload_n 0, 1) := dk_42 (dk_at dksX0_wax_1 11 rfl rfl)
theorem dX0_wax_36 : decode cX0_wax 36 = .ok (.getfield 66, 3) := dk_180 0 66 (dk_at dksX0_wax_1 12 rfl rfl)
theorem dX0_wax_39 : decode cX0_wax 39 = .ok (.iconst 4, 1) := dk_7 (dk_at dksX0_wax_1 15 rfl rfl)
theorem dX0_wax_40 : decode cX0_wax 40 = .ok (.aaload, 1) := dk_50 (dk_at dksX0_wax_1 16 rfl rfl)
theorem dX0_wax_41 : decode cX0_wax 41 = .ok (.aload_n 0, 1) := dk_42 (dk_at dksX0_wax_1 17 rfl rfl)
theorem dX0_wax_42 : decode cX0_wax 42 = .ok (.getfield 31, 3) := dk_180 0 31 (dk_at dksX0_wax_1 18 rfl rfl)
theorem dX0_wax_45 : decode cX0_wax 45 = .ok (.getfield 164, 3) := dk_180 0 164 (dk_at dksX0_wax_1 21 rfl rfl)
theorem dX0_wax_48 : decode cX0_wax 48 = .ok (.iload_n 3, 1) := dk_29 (dk_at dksX0_wax_2 0 rfl rfl)
theorem dX0_wax_49 : decode cX0_wax 49 = .ok (.iaload, 1) := dk_46 (dk_at dksX0_wax_2 1 rfl rfl)
theorem dX0_wax_50 : decode cX0_wax 50 = .ok (.iaload, 1) := dk_46 (dk_at dksX0_wax_2 2 rfl rfl)
theorem dX0_wax_51 : decode cX0_wax 51 = .ok (.aload_n 0, 1) := dk_42 (dk_at dksX0_wax_2 3 rfl rfl)
theorem dX0_wax_52 : decode cX0_wax 52 = .ok (.getfield 66, 3) := dk_180 0 66 (dk_at dksX0_wax_2 4 rfl rfl)
theorem dX0_wax_55 : decode cX0_wax 55 = .ok (.iconst 4, 1) := dk_7 (dk_at dksX0_wax_2 7 rfl rfl)
theorem dX0_wax_56 : decode cX0_wax 56 = .ok (.aaload, 1) := dk_50 (dk_at dksX0_wax_2 8 rfl rfl)
theorem dX0_wax_57 : decode cX0_wax 57 = .ok (.aload_n 0, 1) := dk_42 (dk_at dksX0_wax_2 9 rfl rfl)
theorem dX0_wax_58 : decode cX0_wax 58 = .ok (.getfield 31, 3) := dk_180 0 31 (dk_at dksX0_wax_2 10 rfl rfl)
theorem dX0_wax_61 : decode cX0_wax 61 = .ok (.getfield 164, 3) := dk_180 0 164 (dk_at dksX0_wax_2 13 rfl rfl)
theorem dX0_wax_64 : decode cX0_wax 64 = .ok (.iload_n 2, 1) := dk_28 (dk_at dksX0_wax_2 16 rfl rfl)
theorem dX0_wax_65 : decode cX0_wax 65 = .ok (.iaload, 1) := dk_46 (dk_at dksX0_wax_2 17 rfl rfl)
theorem dX0_wax_66 : decode cX0_wax 66 = .ok (.iaload, 1) := dk_46 (dk_at dksX0_wax_2 18 rfl rfl)
theorem dX0_wax_67 : decode cX0_wax 67 = .ok (.if_icmp .ge 7, 3) := dk_162 0 7 (dk_at dksX0_wax_2 19 rfl rfl)
theorem dX0_wax_70 : decode cX0_wax 70 = .ok (.iload_n 3, 1) := dk_29 (dk_at dksX0_wax_2 22 rfl rfl)
theorem dX0_wax_71 : decode cX0_wax 71 = .ok (.goto 4, 3) := dk_167 0 4 (dk_at dksX0_wax_3 0 rfl rfl)
theorem dX0_wax_74 : decode cX0_wax 74 = .ok (.iload_n 2, 1) := dk_28 (dk_at dksX0_wax_3 3 rfl rfl)
theorem dX0_wax_75 : decode cX0_wax 75 = .ok (.istore_n 2, 1) := dk_61 (dk_at dksX0_wax_3 4 rfl rfl)
theorem dX0_wax_76 : decode cX0_wax 76 = .ok (.iinc 3 1, 3) := dk_132 3 1 (dk_at dksX0_wax_3 5 rfl rfl)
theorem dX0_wax_79 : decode cX0_wax 79 = .ok (.goto (-55), 3) := dk_167 255 201 (dk_at dksX0_wax_3 8 rfl rfl)
theorem dX0_wax_82 : decode cX0_wax 82 = .ok (.aload_n 0, 1) := dk_42 (dk_at dksX0_wax_3 11 rfl rfl)
theorem dX0_wax_83 : decode cX0_wax 83 = .ok (.getfield 66, 3) := dk_180 0 66 (dk_at dksX0_wax_3 12 rfl rfl)
theorem dX0_wax_86 : decode cX0_wax 86 = .ok (.iconst 4, 1) := dk_7 (dk_at dksX0_wax_3 15 rfl rfl)
theorem dX0_wax_87 : decode cX0_wax 87 = .ok (.aaload, 1) := dk_50 (dk_at dksX0_wax_3 16 rfl rfl)
theorem dX0_wax_88 : decode cX0_wax 88 = .ok (.aload_n 0, 1) := dk_42 (dk_at dksX0_wax_3 17 rfl rfl)
theorem dX0_wax_89 : decode cX0_wax 89 = .ok (.getfield 31, 3) := dk_180 0 31 (dk_at dksX0_wax_3 18 rfl rfl)
theorem dX0_wax_92 : decode cX0_wax 92 = .ok (.getfield 164, 3) := dk_180 0 164 (dk_at dksX0_wax_3 21 rfl rfl)
theorem dX0_wax_95 : decode cX0_wax 95 = .ok (.iload_n 2, 1) := dk_28 (dk_at dksX0_wax_4 0 rfl rfl)
theorem dX0_wax_96 : decode cX0_wax 96 = .ok (.iaload, 1) := dk_46 (dk_at dksX0_wax_4 1 rfl rfl)
theorem dX0_wax_97 : decode cX0_wax 97 = .ok (.iaload, 1) := dk_46 (dk_at dksX0_wax_4 2 rfl rfl)
theorem dX0_wax_98 : decode cX0_wax 98 = .ok (.istore_n 3, 1) := dk_62 (dk_at dksX0_wax_4 3 rfl rfl)
theorem dX0_wax_99 : decode cX0_wax 99 = .ok (.iload_n 3, 1) := dk_29 (dk_at dksX0_wax_4 4 rfl rfl)
theorem dX0_wax_100 : decode cX0_wax 100 = .ok (.ldc_w 263, 3) := dk_19 1 7 (dk_at dksX0_wax_4 5 rfl rfl)
theorem dX0_wax_103 : decode cX0_wax 103 = .ok (.if_icmp .lt 5, 3) := dk_161 0 5 (dk_at dksX0_wax_4 8 rfl rfl)
theorem dX0_wax_106 : decode cX0_wax 106 = .ok (.iconst (-1), 1) := dk_2 (dk_at dksX0_wax_4 11 rfl rfl)
theorem dX0_wax_107 : decode cX0_wax 107 = .ok (.ireturn, 1) := dk_172 (dk_at dksX0_wax_4 12 rfl rfl)
theorem dX0_wax_108 : decode cX0_wax 108 = .ok (.aload_n 0, 1) := dk_42 (dk_at dksX0_wax_4 13 rfl rfl)
theorem dX0_wax_109 : decode cX0_wax 109 = .ok (.iload_n 2, 1) := dk_28 (dk_at dksX0_wax_4 14 rfl rfl)
theorem dX0_wax_110 : decode cX0_wax 110 = .ok (.invokevirtual 267, 3) := dk_182 1 11 (dk_at dksX0_wax_4 15 rfl rfl)
theorem dX0_wax_113 : decode cX0_wax 113 = .ok (.aload_n 0, 1) := dk_42 (dk_at dksX0_wax_4 18 rfl rfl)
theorem dX0_wax_114 : decode cX0_wax 114 = .ok (.getfield 31, 3) := dk_180 0 31 (dk_at dksX0_wax_4 19 rfl rfl)
theorem dX0_wax_117 : decode cX0_wax 117 = .ok (.getfield 164, 3) := dk_180 0 164 (dk_at dksX0_wax_5 0 rfl rfl)
theorem dX0_wax_120 : decode cX0_wax 120 = .ok (.iload_n 2, 1) := dk_28 (dk_at dksX0_wax_5 3 rfl rfl)
theorem dX0_wax_121 : decode cX0_wax 121 = .ok (.iaload, 1) := dk_46 (dk_at dksX0_wax_5 4 rfl rfl)
theorem dX0_wax_122 : decode cX0_wax 122 = .ok (.istore 4, 2) := dk_54 4 (dk_at dksX0_wax_5 5 rfl rfl)
theorem dX0_wax_124 : decode cX0_wax 124 = .ok (.iconst 4, 1) := dk_7 (dk_at dksX0_wax_5 7 rfl rfl)
theorem dX0_wax_125 : decode cX0_wax 125 = .ok (.istore 5, 2) := dk_54 5 (dk_at dksX0_wax_5 8 rfl rfl)
theorem dX0_wax_127 : decode cX0_wax 127 = .ok (.iload 4, 2) := dk_21 4 (dk_at dksX0_wax_5 10 rfl rfl)
theorem dX0_wax_129 : decode cX0_wax 129 = .ok (.iload_n 1, 1) := dk_27 (dk_at dksX0_wax_5 12 rfl rfl)
theorem dX0_wax_130 : decode cX0_wax 130 = .ok (.if_icmp .eq 86, 3) := dk_159 0 86 (dk_at dksX0_wax_5 13 rfl rfl)
theorem dX0_wax_133 : decode cX0_wax 133 = .ok (.iconst 0, 1) := dk_3 (dk_at dksX0_wax_5 16 rfl rfl)
theorem dX0_wax_134 : decode cX0_wax 134 = .ok (.istore 6, 2) := dk_54 6 (dk_at dksX0_wax_5 17 rfl rfl)
theorem dX0_wax_136 : decode cX0_wax 136 = .ok (.iconst 1, 1) := dk_4 (dk_at dksX0_wax_5 19 rfl rfl)
theorem dX0_wax_137 : decode cX0_wax 137 = .ok (.iload 6, 2) := dk_21 6 (dk_at dksX0_wax_5 20 rfl rfl)
theorem dX0_wax_139 : decode cX0_wax 139 = .ok (.iconst 4, 1) := dk_7 (dk_at dksX0_wax_5 22 rfl rfl)
theorem dX0_wax_140 : decode cX0_wax 140 = .ok (.irem, 1) := dk_112 (dk_at dksX0_wax_5 23 rfl rfl)
theorem dX0_wax_141 : decode cX0_wax 141 = .ok (.iadd, 1) := dk_96 (dk_at dksX0_wax_6 0 rfl rfl)
theorem dX0_wax_142 : decode cX0_wax 142 = .ok (.aload_n 0, 1) := dk_42 (dk_at dksX0_wax_6 1 rfl rfl)
theorem dX0_wax_143 : decode cX0_wax 143 = .ok (.getfield 66, 3) := dk_180 0 66 (dk_at dksX0_wax_6 2 rfl rfl)
theorem dX0_wax_146 : decode cX0_wax 146 = .ok (.iload 5, 2) := dk_21 5 (dk_at dksX0_wax_6 5 rfl rfl)
theorem dX0_wax_148 : decode cX0_wax 148 = .ok (.iconst 1, 1) := dk_4 (dk_at dksX0_wax_6 7 rfl rfl)
theorem dX0_wax_149 : decode cX0_wax 149 = .ok (.isub, 1) := dk_100 (dk_at dksX0_wax_6 8 rfl rfl)
theorem dX0_wax_150 : decode cX0_wax 150 = .ok (.aaload, 1) := dk_50 (dk_at dksX0_wax_6 9 rfl rfl)
theorem dX0_wax_151 : decode cX0_wax 151 = .ok (.aload_n 0, 1) := dk_42 (dk_at dksX0_wax_6 10 rfl rfl)
theorem dX0_wax_152 : decode cX0_wax 152 = .ok (.getfield 63, 3) := dk_180 0 63 (dk_at dksX0_wax_6 11 rfl rfl)
theorem dX0_wax_155 : decode cX0_wax 155 = .ok (.iload 6, 2) := dk_21 6 (dk_at dksX0_wax_6 14 rfl rfl)
theorem dX0_wax_157 : decode cX0_wax 157 = .ok (.aaload, 1) := dk_50 (dk_at dksX0_wax_6 16 rfl rfl)
theorem dX0_wax_158 : decode cX0_wax 158 = .ok (.iload 4, 2) := dk_21 4 (dk_at dksX0_wax_6 17 rfl rfl)
theorem dX0_wax_160 : decode cX0_wax 160 = .ok (.iaload, 1) := dk_46 (dk_at dksX0_wax_6 19 rfl rfl)
theorem dX0_wax_161 : decode cX0_wax 161 = .ok (.iaload, 1) := dk_46 (dk_at dksX0_wax_6 20 rfl rfl)
theorem dX0_wax_162 : decode cX0_wax 162 = .ok (.iadd, 1) := dk_96 (dk_at dksX0_wax_6 21 rfl rfl)
theorem dX0_wax_163 : decode cX0_wax 163 = .ok (.aload_n 0, 1) := dk_42 (dk_at dksX0_wax_6 22 rfl rfl)
theorem dX0_wax_164 : decode cX0_wax 164 = .ok (.getfield 66, 3) := dk_180 0 66 (dk_at dksX0_wax_7 0 rfl rfl)
theorem dX0_wax_167 : decode cX0_wax 167 = .ok (.iload 5, 2) := dk_21 5 (dk_at dksX0_wax_7 3 rfl rfl)
theorem dX0_wax_169 : decode cX0_wax 169 = .ok (.aaload, 1) := dk_50 (dk_at dksX0_wax_7 5 rfl rfl)
theorem dX0_wax_170 : decode cX0_wax 170 = .ok (.iload 4, 2) := dk_21 4 (dk_at dksX0_wax_7 6 rfl rfl)
theorem dX0_wax_172 : decode cX0_wax 172 = .ok (.iaload, 1) := dk_46 (dk_at dksX0_wax_7 8 rfl rfl)
theorem dX0_wax_173 : decode cX0_wax 173 = .ok (.if_icmp .eq 9, 3) := dk_159 0 9 (dk_at dksX0_wax_7 9 rfl rfl)
theorem dX0_wax_176 : decode cX0_wax 176 = .ok (.iinc 6 1, 3) := dk_132 6 1 (dk_at dksX0_wax_7 12 rfl rfl)
theorem dX0_wax_179 : decode cX0_wax 179 = .ok (.goto (-43), 3) := dk_167 255 213 (dk_at dksX0_wax_7 15 rfl rfl)
theorem dX0_wax_182 : decode cX0_wax 182 = .ok (.aload_n 0, 1) := dk_42 (dk_at dksX0_wax_7 18 rfl rfl)
theorem dX0_wax_183 : decode cX0_wax 183 = .ok (.bipush 10, 2) := dk_16 10 (dk_at dksX0_wax_7 19 rfl rfl)
theorem dX0_wax_185 : decode cX0_wax 185 = .ok (.iload 6, 2) := dk_21 6 (dk_at dksX0_wax_7 21 rfl rfl)
theorem dX0_wax_187 : decode cX0_wax 187 = .ok (.iconst 4, 1) := dk_7 (dk_at dksX0_wax_7 23 rfl rfl)
theorem dX0_wax_188 : decode cX0_wax 188 = .ok (.idiv, 1) := dk_108 (dk_at dksX0_wax_8 0 rfl rfl)
theorem dX0_wax_189 : decode cX0_wax 189 = .ok (.imul, 1) := dk_104 (dk_at dksX0_wax_8 1 rfl rfl)
theorem dX0_wax_190 : decode cX0_wax 190 = .ok (.iload 6, 2) := dk_21 6 (dk_at dksX0_wax_8 2 rfl rfl)
theorem dX0_wax_192 : decode cX0_wax 192 = .ok (.iconst 4, 1) := dk_7 (dk_at dksX0_wax_8 4 rfl rfl)
theorem dX0_wax_193 : decode cX0_wax 193 = .ok (.irem, 1) := dk_112 (dk_at dksX0_wax_8 5 rfl rfl)
theorem dX0_wax_194 : decode cX0_wax 194 = .ok (.iadd, 1) := dk_96 (dk_at dksX0_wax_8 6 rfl rfl)
theorem dX0_wax_195 : decode cX0_wax 195 = .ok (.invokevirtual 267, 3) := dk_182 1 11 (dk_at dksX0_wax_8 7 rfl rfl)
theorem dX0_wax_198 : decode cX0_wax 198 = .ok (.aload_n 0, 1) := dk_42 (dk_at dksX0_wax_8 10 rfl rfl)
theorem dX0_wax_199 : decode cX0_wax 199 = .ok (.getfield 63, 3) := dk_180 0 63 (dk_at dksX0_wax_8 11 rfl rfl)
theorem dX0_wax_202 : decode cX0_wax 202 = .ok (.iload 6, 2) := dk_21 6 (dk_at dksX0_wax_8 14 rfl rfl)
theorem dX0_wax_204 : decode cX0_wax 204 = .ok (.aaload, 1) := dk_50 (dk_at dksX0_wax_8 16 rfl rfl)
theorem dX0_wax_205 : decode cX0_wax 205 = .ok (.iload 4, 2) := dk_21 4 (dk_at dksX0_wax_8 17 rfl rfl)
theorem dX0_wax_207 : decode cX0_wax 207 = .ok (.iaload, 1) := dk_46 (dk_at dksX0_wax_8 19 rfl rfl)
theorem dX0_wax_208 : decode cX0_wax 208 = .ok (.istore 4, 2) := dk_54 4 (dk_at dksX0_wax_8 20 rfl rfl)
theorem dX0_wax_210 : decode cX0_wax 210 = .ok (.iinc 5 (-1), 3) := dk_132 5 255 (dk_at dksX0_wax_9 0 rfl rfl)
theorem dX0_wax_213 : decode cX0_wax 213 = .ok (.goto (-86), 3) := dk_167 255 170 (dk_at dksX0_wax_9 3 rfl rfl)
theorem dX0_wax_216 : decode cX0_wax 216 = .ok (.iload_n 3, 1) := dk_29 (dk_at dksX0_wax_9 6 rfl rfl)
theorem dX0_wax_217 : decode cX0_wax 217 = .ok (.ireturn, 1) := dk_172 (dk_at dksX0_wax_9 7 rfl rfl)
abbrev cX0_layLeast : ByteArray := prog_1_method_53_code
def yX0_layLeast : MethodName := ⟨RX0, "layLeast", "(I)V"⟩
def dkwX0_layLeast_8 : List UInt8 := [184, 1, 14, 79, 132, 5, 1, 167, 255, 200, 132, 4, 1, 167, 255, 162, 132, 3, 1, 167, 255, 148, 177]
abbrev dktX0_layLeast_8 : List UInt8 := dkwX0_layLeast_8 ++ []
def dkwX0_layLeast_7 : List UInt8 := [7, 112, 96, 42, 180, 0, 66, 29, 4, 100, 50, 42, 180, 0, 63, 21, 5, 50, 21, 4, 46, 46, 96]
abbrev dktX0_layLeast_7 : List UInt8 := dkwX0_layLeast_7 ++ dktX0_layLeast_8
def dkwX0_layLeast_6 : List UInt8 := [28, 162, 0, 56, 42, 180, 0, 66, 29, 50, 21, 4, 42, 180, 0, 66, 29, 50, 21, 4, 46, 4, 21, 5]
abbrev dktX0_layLeast_6 : List UInt8 := dkwX0_layLeast_6 ++ dktX0_layLeast_7
def dkwX0_layLeast_5 : List UInt8 := [180, 0, 66, 29, 50, 21, 4, 42, 180, 0, 66, 29, 4, 100, 50, 21, 4, 46, 79, 3, 54, 5, 21, 5]
abbrev dktX0_layLeast_5 : List UInt8 := dkwX0_layLeast_5 ++ dktX0_layLeast_6
def dkwX0_layLeast_4 : List UInt8 := [167, 255, 225, 4, 62, 29, 7, 163, 0, 109, 3, 54, 4, 21, 4, 42, 182, 0, 157, 162, 0, 91, 42]
abbrev dktX0_layLeast_4 : List UInt8 := dkwX0_layLeast_4 ++ dktX0_layLeast_5
def dkwX0_layLeast_3 : List UInt8 := [180, 0, 66, 3, 50, 29, 29, 27, 160, 0, 7, 3, 167, 0, 6, 19, 1, 7, 79, 132, 3, 1]
abbrev dktX0_layLeast_3 : List UInt8 := dkwX0_layLeast_3 ++ dktX0_layLeast_4
def dkwX0_layLeast_2 : List UInt8 := [132, 4, 1, 167, 255, 223, 132, 3, 1, 167, 255, 209, 3, 62, 29, 42, 182, 0, 157, 162, 0, 29, 42]
abbrev dktX0_layLeast_2 : List UInt8 := dkwX0_layLeast_2 ++ dktX0_layLeast_3
def dkwX0_layLeast_1 : List UInt8 := [162, 0, 30, 42, 180, 0, 63, 29, 50, 21, 4, 42, 21, 4, 29, 7, 108, 29, 7, 112, 182, 0, 236, 79]
abbrev dktX0_layLeast_1 : List UInt8 := dkwX0_layLeast_1 ++ dktX0_layLeast_2
def dkwX0_layLeast_0 : List UInt8 := [42, 182, 0, 138, 7, 104, 61, 3, 62, 29, 28, 162, 0, 48, 3, 54, 4, 21, 4, 42, 182, 0, 157]
abbrev dktX0_layLeast_0 : List UInt8 := dkwX0_layLeast_0 ++ dktX0_layLeast_1
theorem dksX0_layLeast_0 : cX0_layLeast.data.toList.drop 0 = dktX0_layLeast_0 := by decide +kernel
theorem dksX0_layLeast_1 : cX0_layLeast.data.toList.drop 23 = dktX0_layLeast_1 := dk_seg dksX0_layLeast_0 23 rfl rfl
theorem dksX0_layLeast_2 : cX0_layLeast.data.toList.drop 47 = dktX0_layLeast_2 := dk_seg dksX0_layLeast_1 24 rfl rfl
theorem dksX0_layLeast_3 : cX0_layLeast.data.toList.drop 70 = dktX0_layLeast_3 := dk_seg dksX0_layLeast_2 23 rfl rfl
theorem dksX0_layLeast_4 : cX0_layLeast.data.toList.drop 92 = dktX0_layLeast_4 := dk_seg dksX0_layLeast_3 22 rfl rfl
theorem dksX0_layLeast_5 : cX0_layLeast.data.toList.drop 115 = dktX0_layLeast_5 := dk_seg dksX0_layLeast_4 23 rfl rfl
theorem dksX0_layLeast_6 : cX0_layLeast.data.toList.drop 139 = dktX0_layLeast_6 := dk_seg dksX0_layLeast_5 24 rfl rfl
theorem dksX0_layLeast_7 : cX0_layLeast.data.toList.drop 163 = dktX0_layLeast_7 := dk_seg dksX0_layLeast_6 24 rfl rfl
theorem dksX0_layLeast_8 : cX0_layLeast.data.toList.drop 186 = dktX0_layLeast_8 := dk_seg dksX0_layLeast_7 23 rfl rfl
theorem dX0_layLeast_0 : decode cX0_layLeast 0 = .ok (.aload_n 0, 1) := dk_42 (dk_at dksX0_layLeast_0 0 rfl rfl)
theorem dX0_layLeast_1 : decode cX0_layLeast 1 = .ok (.invokevirtual 138, 3) := dk_182 0 138 (dk_at dksX0_layLeast_0 1 rfl rfl)
theorem dX0_layLeast_4 : decode cX0_layLeast 4 = .ok (.iconst 4, 1) := dk_7 (dk_at dksX0_layLeast_0 4 rfl rfl)
theorem dX0_layLeast_5 : decode cX0_layLeast 5 = .ok (.imul, 1) := dk_104 (dk_at dksX0_layLeast_0 5 rfl rfl)
theorem dX0_layLeast_6 : decode cX0_layLeast 6 = .ok (.istore_n 2, 1) := dk_61 (dk_at dksX0_layLeast_0 6 rfl rfl)
theorem dX0_layLeast_7 : decode cX0_layLeast 7 = .ok (.iconst 0, 1) := dk_3 (dk_at dksX0_layLeast_0 7 rfl rfl)
theorem dX0_layLeast_8 : decode cX0_layLeast 8 = .ok (.istore_n 3, 1) := dk_62 (dk_at dksX0_layLeast_0 8 rfl rfl)
theorem dX0_layLeast_9 : decode cX0_layLeast 9 = .ok (.iload_n 3, 1) := dk_29 (dk_at dksX0_layLeast_0 9 rfl rfl)
theorem dX0_layLeast_10 : decode cX0_layLeast 10 = .ok (.iload_n 2, 1) := dk_28 (dk_at dksX0_layLeast_0 10 rfl rfl)
theorem dX0_layLeast_11 : decode cX0_layLeast 11 = .ok (.if_icmp .ge 48, 3) := dk_162 0 48 (dk_at dksX0_layLeast_0 11 rfl rfl)
theorem dX0_layLeast_14 : decode cX0_layLeast 14 = .ok (.iconst 0, 1) := dk_3 (dk_at dksX0_layLeast_0 14 rfl rfl)
theorem dX0_layLeast_15 : decode cX0_layLeast 15 = .ok (.istore 4, 2) := dk_54 4 (dk_at dksX0_layLeast_0 15 rfl rfl)
theorem dX0_layLeast_17 : decode cX0_layLeast 17 = .ok (.iload 4, 2) := dk_21 4 (dk_at dksX0_layLeast_0 17 rfl rfl)
theorem dX0_layLeast_19 : decode cX0_layLeast 19 = .ok (.aload_n 0, 1) := dk_42 (dk_at dksX0_layLeast_0 19 rfl rfl)
theorem dX0_layLeast_20 : decode cX0_layLeast 20 = .ok (.invokevirtual 157, 3) := dk_182 0 157 (dk_at dksX0_layLeast_0 20 rfl rfl)
theorem dX0_layLeast_23 : decode cX0_layLeast 23 = .ok (.if_icmp .ge 30, 3) := dk_162 0 30 (dk_at dksX0_layLeast_1 0 rfl rfl)
theorem dX0_layLeast_26 : decode cX0_layLeast 26 = .ok (.aload_n 0, 1) := dk_42 (dk_at dksX0_layLeast_1 3 rfl rfl)
theorem dX0_layLeast_27 : decode cX0_layLeast 27 = .ok (.getfield 63, 3) := dk_180 0 63 (dk_at dksX0_layLeast_1 4 rfl rfl)
theorem dX0_layLeast_30 : decode cX0_layLeast 30 = .ok (.iload_n 3, 1) := dk_29 (dk_at dksX0_layLeast_1 7 rfl rfl)
theorem dX0_layLeast_31 : decode cX0_layLeast 31 = .ok (.aaload, 1) := dk_50 (dk_at dksX0_layLeast_1 8 rfl rfl)
theorem dX0_layLeast_32 : decode cX0_layLeast 32 = .ok (.iload 4, 2) := dk_21 4 (dk_at dksX0_layLeast_1 9 rfl rfl)
theorem dX0_layLeast_34 : decode cX0_layLeast 34 = .ok (.aload_n 0, 1) := dk_42 (dk_at dksX0_layLeast_1 11 rfl rfl)
theorem dX0_layLeast_35 : decode cX0_layLeast 35 = .ok (.iload 4, 2) := dk_21 4 (dk_at dksX0_layLeast_1 12 rfl rfl)
theorem dX0_layLeast_37 : decode cX0_layLeast 37 = .ok (.iload_n 3, 1) := dk_29 (dk_at dksX0_layLeast_1 14 rfl rfl)
theorem dX0_layLeast_38 : decode cX0_layLeast 38 = .ok (.iconst 4, 1) := dk_7 (dk_at dksX0_layLeast_1 15 rfl rfl)
theorem dX0_layLeast_39 : decode cX0_layLeast 39 = .ok (.idiv, 1) := dk_108 (dk_at dksX0_layLeast_1 16 rfl rfl)
theorem dX0_layLeast_40 : decode cX0_layLeast 40 = .ok (.iload_n 3, 1) := dk_29 (dk_at dksX0_layLeast_1 17 rfl rfl)
theorem dX0_layLeast_41 : decode cX0_layLeast 41 = .ok (.iconst 4, 1) := dk_7 (dk_at dksX0_layLeast_1 18 rfl rfl)
theorem dX0_layLeast_42 : decode cX0_layLeast 42 = .ok (.irem, 1) := dk_112 (dk_at dksX0_layLeast_1 19 rfl rfl)
theorem dX0_layLeast_43 : decode cX0_layLeast 43 = .ok (.invokevirtual 236, 3) := dk_182 0 236 (dk_at dksX0_layLeast_1 20 rfl rfl)
theorem dX0_layLeast_46 : decode cX0_layLeast 46 = .ok (.iastore, 1) := dk_79 (dk_at dksX0_layLeast_1 23 rfl rfl)
theorem dX0_layLeast_47 : decode cX0_layLeast 47 = .ok (.iinc 4 1, 3) := dk_132 4 1 (dk_at dksX0_layLeast_2 0 rfl rfl)
theorem dX0_layLeast_50 : decode cX0_layLeast 50 = .ok (.goto (-33), 3) := dk_167 255 223 (dk_at dksX0_layLeast_2 3 rfl rfl)
theorem dX0_layLeast_53 : decode cX0_layLeast 53 = .ok (.iinc 3 1, 3) := dk_132 3 1 (dk_at dksX0_layLeast_2 6 rfl rfl)
theorem dX0_layLeast_56 : decode cX0_layLeast 56 = .ok (.goto (-47), 3) := dk_167 255 209 (dk_at dksX0_layLeast_2 9 rfl rfl)
theorem dX0_layLeast_59 : decode cX0_layLeast 59 = .ok (.iconst 0, 1) := dk_3 (dk_at dksX0_layLeast_2 12 rfl rfl)
theorem dX0_layLeast_60 : decode cX0_layLeast 60 = .ok (.istore_n 3, 1) := dk_62 (dk_at dksX0_layLeast_2 13 rfl rfl)
theorem dX0_layLeast_61 : decode cX0_layLeast 61 = .ok (.iload_n 3, 1) := dk_29 (dk_at dksX0_layLeast_2 14 rfl rfl)
theorem dX0_layLeast_62 : decode cX0_layLeast 62 = .ok (.aload_n 0, 1) := dk_42 (dk_at dksX0_layLeast_2 15 rfl rfl)
theorem dX0_layLeast_63 : decode cX0_layLeast 63 = .ok (.invokevirtual 157, 3) := dk_182 0 157 (dk_at dksX0_layLeast_2 16 rfl rfl)
theorem dX0_layLeast_66 : decode cX0_layLeast 66 = .ok (.if_icmp .ge 29, 3) := dk_162 0 29 (dk_at dksX0_layLeast_2 19 rfl rfl)
theorem dX0_layLeast_69 : decode cX0_layLeast 69 = .ok (.aload_n 0, 1) := dk_42 (dk_at dksX0_layLeast_2 22 rfl rfl)
theorem dX0_layLeast_70 : decode cX0_layLeast 70 = .ok (.getfield 66, 3) := dk_180 0 66 (dk_at dksX0_layLeast_3 0 rfl rfl)
theorem dX0_layLeast_73 : decode cX0_layLeast 73 = .ok (.iconst 0, 1) := dk_3 (dk_at dksX0_layLeast_3 3 rfl rfl)
theorem dX0_layLeast_74 : decode cX0_layLeast 74 = .ok (.aaload, 1) := dk_50 (dk_at dksX0_layLeast_3 4 rfl rfl)
theorem dX0_layLeast_75 : decode cX0_layLeast 75 = .ok (.iload_n 3, 1) := dk_29 (dk_at dksX0_layLeast_3 5 rfl rfl)
theorem dX0_layLeast_76 : decode cX0_layLeast 76 = .ok (.iload_n 3, 1) := dk_29 (dk_at dksX0_layLeast_3 6 rfl rfl)
theorem dX0_layLeast_77 : decode cX0_layLeast 77 = .ok (.iload_n 1, 1) := dk_27 (dk_at dksX0_layLeast_3 7 rfl rfl)
theorem dX0_layLeast_78 : decode cX0_layLeast 78 = .ok (.if_icmp .ne 7, 3) := dk_160 0 7 (dk_at dksX0_layLeast_3 8 rfl rfl)
theorem dX0_layLeast_81 : decode cX0_layLeast 81 = .ok (.iconst 0, 1) := dk_3 (dk_at dksX0_layLeast_3 11 rfl rfl)
theorem dX0_layLeast_82 : decode cX0_layLeast 82 = .ok (.goto 6, 3) := dk_167 0 6 (dk_at dksX0_layLeast_3 12 rfl rfl)
theorem dX0_layLeast_85 : decode cX0_layLeast 85 = .ok (.ldc_w 263, 3) := dk_19 1 7 (dk_at dksX0_layLeast_3 15 rfl rfl)
theorem dX0_layLeast_88 : decode cX0_layLeast 88 = .ok (.iastore, 1) := dk_79 (dk_at dksX0_layLeast_3 18 rfl rfl)
theorem dX0_layLeast_89 : decode cX0_layLeast 89 = .ok (.iinc 3 1, 3) := dk_132 3 1 (dk_at dksX0_layLeast_3 19 rfl rfl)
theorem dX0_layLeast_92 : decode cX0_layLeast 92 = .ok (.goto (-31), 3) := dk_167 255 225 (dk_at dksX0_layLeast_4 0 rfl rfl)
theorem dX0_layLeast_95 : decode cX0_layLeast 95 = .ok (.iconst 1, 1) := dk_4 (dk_at dksX0_layLeast_4 3 rfl rfl)
theorem dX0_layLeast_96 : decode cX0_layLeast 96 = .ok (.istore_n 3, 1) := dk_62 (dk_at dksX0_layLeast_4 4 rfl rfl)
theorem dX0_layLeast_97 : decode cX0_layLeast 97 = .ok (.iload_n 3, 1) := dk_29 (dk_at dksX0_layLeast_4 5 rfl rfl)
theorem dX0_layLeast_98 : decode cX0_layLeast 98 = .ok (.iconst 4, 1) := dk_7 (dk_at dksX0_layLeast_4 6 rfl rfl)
theorem dX0_layLeast_99 : decode cX0_layLeast 99 = .ok (.if_icmp .gt 109, 3) := dk_163 0 109 (dk_at dksX0_layLeast_4 7 rfl rfl)
theorem dX0_layLeast_102 : decode cX0_layLeast 102 = .ok (.iconst 0, 1) := dk_3 (dk_at dksX0_layLeast_4 10 rfl rfl)
theorem dX0_layLeast_103 : decode cX0_layLeast 103 = .ok (.istore 4, 2) := dk_54 4 (dk_at dksX0_layLeast_4 11 rfl rfl)
theorem dX0_layLeast_105 : decode cX0_layLeast 105 = .ok (.iload 4, 2) := dk_21 4 (dk_at dksX0_layLeast_4 13 rfl rfl)
theorem dX0_layLeast_107 : decode cX0_layLeast 107 = .ok (.aload_n 0, 1) := dk_42 (dk_at dksX0_layLeast_4 15 rfl rfl)
theorem dX0_layLeast_108 : decode cX0_layLeast 108 = .ok (.invokevirtual 157, 3) := dk_182 0 157 (dk_at dksX0_layLeast_4 16 rfl rfl)
theorem dX0_layLeast_111 : decode cX0_layLeast 111 = .ok (.if_icmp .ge 91, 3) := dk_162 0 91 (dk_at dksX0_layLeast_4 19 rfl rfl)
theorem dX0_layLeast_114 : decode cX0_layLeast 114 = .ok (.aload_n 0, 1) := dk_42 (dk_at dksX0_layLeast_4 22 rfl rfl)
theorem dX0_layLeast_115 : decode cX0_layLeast 115 = .ok (.getfield 66, 3) := dk_180 0 66 (dk_at dksX0_layLeast_5 0 rfl rfl)
theorem dX0_layLeast_118 : decode cX0_layLeast 118 = .ok (.iload_n 3, 1) := dk_29 (dk_at dksX0_layLeast_5 3 rfl rfl)
theorem dX0_layLeast_119 : decode cX0_layLeast 119 = .ok (.aaload, 1) := dk_50 (dk_at dksX0_layLeast_5 4 rfl rfl)
theorem dX0_layLeast_120 : decode cX0_layLeast 120 = .ok (.iload 4, 2) := dk_21 4 (dk_at dksX0_layLeast_5 5 rfl rfl)
theorem dX0_layLeast_122 : decode cX0_layLeast 122 = .ok (.aload_n 0, 1) := dk_42 (dk_at dksX0_layLeast_5 7 rfl rfl)
theorem dX0_layLeast_123 : decode cX0_layLeast 123 = .ok (.getfield 66, 3) := dk_180 0 66 (dk_at dksX0_layLeast_5 8 rfl rfl)
theorem dX0_layLeast_126 : decode cX0_layLeast 126 = .ok (.iload_n 3, 1) := dk_29 (dk_at dksX0_layLeast_5 11 rfl rfl)
theorem dX0_layLeast_127 : decode cX0_layLeast 127 = .ok (.iconst 1, 1) := dk_4 (dk_at dksX0_layLeast_5 12 rfl rfl)
theorem dX0_layLeast_128 : decode cX0_layLeast 128 = .ok (.isub, 1) := dk_100 (dk_at dksX0_layLeast_5 13 rfl rfl)
theorem dX0_layLeast_129 : decode cX0_layLeast 129 = .ok (.aaload, 1) := dk_50 (dk_at dksX0_layLeast_5 14 rfl rfl)
theorem dX0_layLeast_130 : decode cX0_layLeast 130 = .ok (.iload 4, 2) := dk_21 4 (dk_at dksX0_layLeast_5 15 rfl rfl)
theorem dX0_layLeast_132 : decode cX0_layLeast 132 = .ok (.iaload, 1) := dk_46 (dk_at dksX0_layLeast_5 17 rfl rfl)
theorem dX0_layLeast_133 : decode cX0_layLeast 133 = .ok (.iastore, 1) := dk_79 (dk_at dksX0_layLeast_5 18 rfl rfl)
theorem dX0_layLeast_134 : decode cX0_layLeast 134 = .ok (.iconst 0, 1) := dk_3 (dk_at dksX0_layLeast_5 19 rfl rfl)
theorem dX0_layLeast_135 : decode cX0_layLeast 135 = .ok (.istore 5, 2) := dk_54 5 (dk_at dksX0_layLeast_5 20 rfl rfl)
theorem dX0_layLeast_137 : decode cX0_layLeast 137 = .ok (.iload 5, 2) := dk_21 5 (dk_at dksX0_layLeast_5 22 rfl rfl)
theorem dX0_layLeast_139 : decode cX0_layLeast 139 = .ok (.iload_n 2, 1) := dk_28 (dk_at dksX0_layLeast_6 0 rfl rfl)
theorem dX0_layLeast_140 : decode cX0_layLeast 140 = .ok (.if_icmp .ge 56, 3) := dk_162 0 56 (dk_at dksX0_layLeast_6 1 rfl rfl)
theorem dX0_layLeast_143 : decode cX0_layLeast 143 = .ok (.aload_n 0, 1) := dk_42 (dk_at dksX0_layLeast_6 4 rfl rfl)
theorem dX0_layLeast_144 : decode cX0_layLeast 144 = .ok (.getfield 66, 3) := dk_180 0 66 (dk_at dksX0_layLeast_6 5 rfl rfl)
theorem dX0_layLeast_147 : decode cX0_layLeast 147 = .ok (.iload_n 3, 1) := dk_29 (dk_at dksX0_layLeast_6 8 rfl rfl)
theorem dX0_layLeast_148 : decode cX0_layLeast 148 = .ok (.aaload, 1) := dk_50 (dk_at dksX0_layLeast_6 9 rfl rfl)
theorem dX0_layLeast_149 : decode cX0_layLeast 149 = .ok (.iload 4, 2) := dk_21 4 (dk_at dksX0_layLeast_6 10 rfl rfl)
theorem dX0_layLeast_151 : decode cX0_layLeast 151 = .ok (.aload_n 0, 1) := dk_42 (dk_at dksX0_layLeast_6 12 rfl rfl)
theorem dX0_layLeast_152 : decode cX0_layLeast 152 = .ok (.getfield 66, 3) := dk_180 0 66 (dk_at dksX0_layLeast_6 13 rfl rfl)
theorem dX0_layLeast_155 : decode cX0_layLeast 155 = .ok (.iload_n 3, 1) := dk_29 (dk_at dksX0_layLeast_6 16 rfl rfl)
theorem dX0_layLeast_156 : decode cX0_layLeast 156 = .ok (.aaload, 1) := dk_50 (dk_at dksX0_layLeast_6 17 rfl rfl)
theorem dX0_layLeast_157 : decode cX0_layLeast 157 = .ok (.iload 4, 2) := dk_21 4 (dk_at dksX0_layLeast_6 18 rfl rfl)
theorem dX0_layLeast_159 : decode cX0_layLeast 159 = .ok (.iaload, 1) := dk_46 (dk_at dksX0_layLeast_6 20 rfl rfl)
theorem dX0_layLeast_160 : decode cX0_layLeast 160 = .ok (.iconst 1, 1) := dk_4 (dk_at dksX0_layLeast_6 21 rfl rfl)
theorem dX0_layLeast_161 : decode cX0_layLeast 161 = .ok (.iload 5, 2) := dk_21 5 (dk_at dksX0_layLeast_6 22 rfl rfl)
theorem dX0_layLeast_163 : decode cX0_layLeast 163 = .ok (.iconst 4, 1) := dk_7 (dk_at dksX0_layLeast_7 0 rfl rfl)
theorem dX0_layLeast_164 : decode cX0_layLeast 164 = .ok (.irem, 1) := dk_112 (dk_at dksX0_layLeast_7 1 rfl rfl)
theorem dX0_layLeast_165 : decode cX0_layLeast 165 = .ok (.iadd, 1) := dk_96 (dk_at dksX0_layLeast_7 2 rfl rfl)
theorem dX0_layLeast_166 : decode cX0_layLeast 166 = .ok (.aload_n 0, 1) := dk_42 (dk_at dksX0_layLeast_7 3 rfl rfl)
theorem dX0_layLeast_167 : decode cX0_layLeast 167 = .ok (.getfield 66, 3) := dk_180 0 66 (dk_at dksX0_layLeast_7 4 rfl rfl)
theorem dX0_layLeast_170 : decode cX0_layLeast 170 = .ok (.iload_n 3, 1) := dk_29 (dk_at dksX0_layLeast_7 7 rfl rfl)
theorem dX0_layLeast_171 : decode cX0_layLeast 171 = .ok (.iconst 1, 1) := dk_4 (dk_at dksX0_layLeast_7 8 rfl rfl)
theorem dX0_layLeast_172 : decode cX0_layLeast 172 = .ok (.isub, 1) := dk_100 (dk_at dksX0_layLeast_7 9 rfl rfl)
theorem dX0_layLeast_173 : decode cX0_layLeast 173 = .ok (.aaload, 1) := dk_50 (dk_at dksX0_layLeast_7 10 rfl rfl)
theorem dX0_layLeast_174 : decode cX0_layLeast 174 = .ok (.aload_n 0, 1) := dk_42 (dk_at dksX0_layLeast_7 11 rfl rfl)
theorem dX0_layLeast_175 : decode cX0_layLeast 175 = .ok (.getfield 63, 3) := dk_180 0 63 (dk_at dksX0_layLeast_7 12 rfl rfl)
theorem dX0_layLeast_178 : decode cX0_layLeast 178 = .ok (.iload 5, 2) := dk_21 5 (dk_at dksX0_layLeast_7 15 rfl rfl)
theorem dX0_layLeast_180 : decode cX0_layLeast 180 = .ok (.aaload, 1) := dk_50 (dk_at dksX0_layLeast_7 17 rfl rfl)
theorem dX0_layLeast_181 : decode cX0_layLeast 181 = .ok (.iload 4, 2) := dk_21 4 (dk_at dksX0_layLeast_7 18 rfl rfl)
theorem dX0_layLeast_183 : decode cX0_layLeast 183 = .ok (.iaload, 1) := dk_46 (dk_at dksX0_layLeast_7 20 rfl rfl)
theorem dX0_layLeast_184 : decode cX0_layLeast 184 = .ok (.iaload, 1) := dk_46 (dk_at dksX0_layLeast_7 21 rfl rfl)
theorem dX0_layLeast_185 : decode cX0_layLeast 185 = .ok (.iadd, 1) := dk_96 (dk_at dksX0_layLeast_7 22 rfl rfl)
theorem dX0_layLeast_186 : decode cX0_layLeast 186 = .ok (.invokestatic 270, 3) := dk_184 1 14 (dk_at dksX0_layLeast_8 0 rfl rfl)
theorem dX0_layLeast_189 : decode cX0_layLeast 189 = .ok (.iastore, 1) := dk_79 (dk_at dksX0_layLeast_8 3 rfl rfl)
theorem dX0_layLeast_190 : decode cX0_layLeast 190 = .ok (.iinc 5 1, 3) := dk_132 5 1 (dk_at dksX0_layLeast_8 4 rfl rfl)
theorem dX0_layLeast_193 : decode cX0_layLeast 193 = .ok (.goto (-56), 3) := dk_167 255 200 (dk_at dksX0_layLeast_8 7 rfl rfl)
theorem dX0_layLeast_196 : decode cX0_layLeast 196 = .ok (.iinc 4 1, 3) := dk_132 4 1 (dk_at dksX0_layLeast_8 10 rfl rfl)
theorem dX0_layLeast_199 : decode cX0_layLeast 199 = .ok (.goto (-94), 3) := dk_167 255 162 (dk_at dksX0_layLeast_8 13 rfl rfl)
theorem dX0_layLeast_202 : decode cX0_layLeast 202 = .ok (.iinc 3 1, 3) := dk_132 3 1 (dk_at dksX0_layLeast_8 16 rfl rfl)
theorem dX0_layLeast_205 : decode cX0_layLeast 205 = .ok (.goto (-108), 3) := dk_167 255 148 (dk_at dksX0_layLeast_8 19 rfl rfl)
theorem dX0_layLeast_208 : decode cX0_layLeast 208 = .ok (.return_, 1) := dk_177 (dk_at dksX0_layLeast_8 22 rfl rfl)
abbrev cX0_sample : ByteArray := prog_1_method_57_code
def yX0_sample : MethodName := ⟨RX0, "sample", "(IZ)I"⟩
def dkwX0_sample_1 : List UInt8 := [27, 28, 42, 180, 1, 30, 183, 1, 33, 182, 1, 36, 172]
abbrev dktX0_sample_1 : List UInt8 := dkwX0_sample_1 ++ []
def dkwX0_sample_0 : List UInt8 := [42, 27, 182, 0, 192, 153, 0, 10, 42, 182, 1, 26, 153, 0, 7, 2, 167, 0, 20, 42, 187, 0, 78, 89]
abbrev dktX0_sample_0 : List UInt8 := dkwX0_sample_0 ++ dktX0_sample_1
theorem dksX0_sample_0 : cX0_sample.data.toList.drop 0 = dktX0_sample_0 := by decide +kernel
theorem dksX0_sample_1 : cX0_sample.data.toList.drop 24 = dktX0_sample_1 := dk_seg dksX0_sample_0 24 rfl rfl
theorem dX0_sample_0 : decode cX0_sample 0 = .ok (.aload_n 0, 1) := dk_42 (dk_at dksX0_sample_0 0 rfl rfl)
theorem dX0_sample_1 : decode cX0_sample 1 = .ok (.iload_n 1, 1) := dk_27 (dk_at dksX0_sample_0 1 rfl rfl)
theorem dX0_sample_2 : decode cX0_sample 2 = .ok (.invokevirtual 192, 3) := dk_182 0 192 (dk_at dksX0_sample_0 2 rfl rfl)
theorem dX0_sample_5 : decode cX0_sample 5 = .ok (.ifCond .eq 10, 3) := dk_153 0 10 (dk_at dksX0_sample_0 5 rfl rfl)
theorem dX0_sample_8 : decode cX0_sample 8 = .ok (.aload_n 0, 1) := dk_42 (dk_at dksX0_sample_0 8 rfl rfl)
theorem dX0_sample_9 : decode cX0_sample 9 = .ok (.invokevirtual 282, 3) := dk_182 1 26 (dk_at dksX0_sample_0 9 rfl rfl)
theorem dX0_sample_12 : decode cX0_sample 12 = .ok (.ifCond .eq 7, 3) := dk_153 0 7 (dk_at dksX0_sample_0 12 rfl rfl)
theorem dX0_sample_15 : decode cX0_sample 15 = .ok (.iconst (-1), 1) := dk_2 (dk_at dksX0_sample_0 15 rfl rfl)
theorem dX0_sample_16 : decode cX0_sample 16 = .ok (.goto 20, 3) := dk_167 0 20 (dk_at dksX0_sample_0 16 rfl rfl)
theorem dX0_sample_19 : decode cX0_sample 19 = .ok (.aload_n 0, 1) := dk_42 (dk_at dksX0_sample_0 19 rfl rfl)
theorem dX0_sample_20 : decode cX0_sample 20 = .ok (.new 78, 3) := dk_187 0 78 (dk_at dksX0_sample_0 20 rfl rfl)
theorem dX0_sample_23 : decode cX0_sample 23 = .ok (.dup, 1) := dk_89 (dk_at dksX0_sample_0 23 rfl rfl)
theorem dX0_sample_24 : decode cX0_sample 24 = .ok (.iload_n 1, 1) := dk_27 (dk_at dksX0_sample_1 0 rfl rfl)
theorem dX0_sample_25 : decode cX0_sample 25 = .ok (.iload_n 2, 1) := dk_28 (dk_at dksX0_sample_1 1 rfl rfl)
theorem dX0_sample_26 : decode cX0_sample 26 = .ok (.aload_n 0, 1) := dk_42 (dk_at dksX0_sample_1 2 rfl rfl)
theorem dX0_sample_27 : decode cX0_sample 27 = .ok (.getfield 286, 3) := dk_180 1 30 (dk_at dksX0_sample_1 3 rfl rfl)
theorem dX0_sample_30 : decode cX0_sample 30 = .ok (.invokespecial 289, 3) := dk_183 1 33 (dk_at dksX0_sample_1 6 rfl rfl)
theorem dX0_sample_33 : decode cX0_sample 33 = .ok (.invokevirtual 292, 3) := dk_182 1 36 (dk_at dksX0_sample_1 9 rfl rfl)
theorem dX0_sample_36 : decode cX0_sample 36 = .ok (.ireturn, 1) := dk_172 (dk_at dksX0_sample_1 12 rfl rfl)
abbrev cX0_isFull : ByteArray := prog_1_method_55_code
def yX0_isFull : MethodName := ⟨RX0, "isFull", "()Z"⟩
def dkwX0_isFull_0 : List UInt8 := [42, 180, 0, 74, 182, 0, 144, 16, 40, 160, 0, 7, 4, 167, 0, 4, 3, 172]
abbrev dktX0_isFull_0 : List UInt8 := dkwX0_isFull_0 ++ []
theorem dksX0_isFull_0 : cX0_isFull.data.toList.drop 0 = dktX0_isFull_0 := by decide +kernel
theorem dX0_isFull_0 : decode cX0_isFull 0 = .ok (.aload_n 0, 1) := dk_42 (dk_at dksX0_isFull_0 0 rfl rfl)
theorem dX0_isFull_1 : decode cX0_isFull 1 = .ok (.getfield 74, 3) := dk_180 0 74 (dk_at dksX0_isFull_0 1 rfl rfl)
theorem dX0_isFull_4 : decode cX0_isFull 4 = .ok (.invokevirtual 144, 3) := dk_182 0 144 (dk_at dksX0_isFull_0 4 rfl rfl)
theorem dX0_isFull_7 : decode cX0_isFull 7 = .ok (.bipush 40, 2) := dk_16 40 (dk_at dksX0_isFull_0 7 rfl rfl)
theorem dX0_isFull_9 : decode cX0_isFull 9 = .ok (.if_icmp .ne 7, 3) := dk_160 0 7 (dk_at dksX0_isFull_0 9 rfl rfl)
theorem dX0_isFull_12 : decode cX0_isFull 12 = .ok (.iconst 1, 1) := dk_4 (dk_at dksX0_isFull_0 12 rfl rfl)
theorem dX0_isFull_13 : decode cX0_isFull 13 = .ok (.goto 4, 3) := dk_167 0 4 (dk_at dksX0_isFull_0 13 rfl rfl)
theorem dX0_isFull_16 : decode cX0_isFull 16 = .ok (.iconst 0, 1) := dk_3 (dk_at dksX0_isFull_0 16 rfl rfl)
theorem dX0_isFull_17 : decode cX0_isFull 17 = .ok (.ireturn, 1) := dk_172 (dk_at dksX0_isFull_0 17 rfl rfl)
abbrev cX0_add : ByteArray := prog_1_method_56_code
def yX0_add : MethodName := ⟨RX0, "add", "(LSealCasts$Fact;)I"⟩
def dkwX0_add_0 : List UInt8 := [42, 180, 0, 74, 43, 182, 1, 22, 87, 42, 180, 0, 74, 182, 0, 144, 4, 100, 172]
abbrev dktX0_add_0 : List UInt8 := dkwX0_add_0 ++ []
theorem dksX0_add_0 : cX0_add.data.toList.drop 0 = dktX0_add_0 := by decide +kernel
theorem dX0_add_0 : decode cX0_add 0 = .ok (.aload_n 0, 1) := dk_42 (dk_at dksX0_add_0 0 rfl rfl)
theorem dX0_add_1 : decode cX0_add 1 = .ok (.getfield 74, 3) := dk_180 0 74 (dk_at dksX0_add_0 1 rfl rfl)
theorem dX0_add_4 : decode cX0_add 4 = .ok (.aload_n 1, 1) := dk_43 (dk_at dksX0_add_0 4 rfl rfl)
theorem dX0_add_5 : decode cX0_add 5 = .ok (.invokevirtual 278, 3) := dk_182 1 22 (dk_at dksX0_add_0 5 rfl rfl)
theorem dX0_add_8 : decode cX0_add 8 = .ok (.pop, 1) := dk_87 (dk_at dksX0_add_0 8 rfl rfl)
theorem dX0_add_9 : decode cX0_add 9 = .ok (.aload_n 0, 1) := dk_42 (dk_at dksX0_add_0 9 rfl rfl)
theorem dX0_add_10 : decode cX0_add 10 = .ok (.getfield 74, 3) := dk_180 0 74 (dk_at dksX0_add_0 10 rfl rfl)
theorem dX0_add_13 : decode cX0_add 13 = .ok (.invokevirtual 144, 3) := dk_182 0 144 (dk_at dksX0_add_0 13 rfl rfl)
theorem dX0_add_16 : decode cX0_add 16 = .ok (.iconst 1, 1) := dk_4 (dk_at dksX0_add_0 16 rfl rfl)
theorem dX0_add_17 : decode cX0_add 17 = .ok (.isub, 1) := dk_100 (dk_at dksX0_add_0 17 rfl rfl)
theorem dX0_add_18 : decode cX0_add 18 = .ok (.ireturn, 1) := dk_172 (dk_at dksX0_add_0 18 rfl rfl)
abbrev cX0_claim : ByteArray := prog_1_method_58_code
def yX0_claim : MethodName := ⟨RX0, "claim", "(III)I"⟩
def dkwX0_claim_2 : List UInt8 := [180, 1, 30, 183, 1, 41, 182, 1, 36, 172]
abbrev dktX0_claim_2 : List UInt8 := dkwX0_claim_2 ++ []
def dkwX0_claim_1 : List UInt8 := [153, 0, 10, 42, 182, 1, 26, 153, 0, 7, 2, 167, 0, 21, 42, 187, 1, 39, 89, 27, 28, 29, 42]
abbrev dktX0_claim_1 : List UInt8 := dkwX0_claim_1 ++ dktX0_claim_2
def dkwX0_claim_0 : List UInt8 := [42, 27, 182, 0, 192, 153, 0, 29, 42, 28, 182, 0, 160, 153, 0, 21, 29, 3, 17, 3, 231, 184, 0, 150]
abbrev dktX0_claim_0 : List UInt8 := dkwX0_claim_0 ++ dktX0_claim_1
theorem dksX0_claim_0 : cX0_claim.data.toList.drop 0 = dktX0_claim_0 := by decide +kernel
theorem dksX0_claim_1 : cX0_claim.data.toList.drop 24 = dktX0_claim_1 := dk_seg dksX0_claim_0 24 rfl rfl
theorem dksX0_claim_2 : cX0_claim.data.toList.drop 47 = dktX0_claim_2 := dk_seg dksX0_claim_1 23 rfl rfl
theorem dX0_claim_0 : decode cX0_claim 0 = .ok (.aload_n 0, 1) := dk_42 (dk_at dksX0_claim_0 0 rfl rfl)
theorem dX0_claim_1 : decode cX0_claim 1 = .ok (.iload_n 1, 1) := dk_27 (dk_at dksX0_claim_0 1 rfl rfl)
theorem dX0_claim_2 : decode cX0_claim 2 = .ok (.invokevirtual 192, 3) := dk_182 0 192 (dk_at dksX0_claim_0 2 rfl rfl)
theorem dX0_claim_5 : decode cX0_claim 5 = .ok (.ifCond .eq 29, 3) := dk_153 0 29 (dk_at dksX0_claim_0 5 rfl rfl)
theorem dX0_claim_8 : decode cX0_claim 8 = .ok (.aload_n 0, 1) := dk_42 (dk_at dksX0_claim_0 8 rfl rfl)
theorem dX0_claim_9 : decode cX0_claim 9 = .ok (.iload_n 2, 1) := dk_28 (dk_at dksX0_claim_0 9 rfl rfl)
theorem dX0_claim_10 : decode cX0_claim 10 = .ok (.invokevirtual 160, 3) := dk_182 0 160 (dk_at dksX0_claim_0 10 rfl rfl)
theorem dX0_claim_13 : decode cX0_claim 13 = .ok (.ifCond .eq 21, 3) := dk_153 0 21 (dk_at dksX0_claim_0 13 rfl rfl)
theorem dX0_claim_16 : decode cX0_claim 16 = .ok (.iload_n 3, 1) := dk_29 (dk_at dksX0_claim_0 16 rfl rfl)
theorem dX0_claim_17 : decode cX0_claim 17 = .ok (.iconst 0, 1) := dk_3 (dk_at dksX0_claim_0 17 rfl rfl)
theorem dX0_claim_18 : decode cX0_claim 18 = .ok (.sipush 999, 3) := dk_17 3 231 (dk_at dksX0_claim_0 18 rfl rfl)
theorem dX0_claim_21 : decode cX0_claim 21 = .ok (.invokestatic 150, 3) := dk_184 0 150 (dk_at dksX0_claim_0 21 rfl rfl)
theorem dX0_claim_24 : decode cX0_claim 24 = .ok (.ifCond .eq 10, 3) := dk_153 0 10 (dk_at dksX0_claim_1 0 rfl rfl)
theorem dX0_claim_27 : decode cX0_claim 27 = .ok (.aload_n 0, 1) := dk_42 (dk_at dksX0_claim_1 3 rfl rfl)
theorem dX0_claim_28 : decode cX0_claim 28 = .ok (.invokevirtual 282, 3) := dk_182 1 26 (dk_at dksX0_claim_1 4 rfl rfl)
theorem dX0_claim_31 : decode cX0_claim 31 = .ok (.ifCond .eq 7, 3) := dk_153 0 7 (dk_at dksX0_claim_1 7 rfl rfl)
theorem dX0_claim_34 : decode cX0_claim 34 = .ok (.iconst (-1), 1) := dk_2 (dk_at dksX0_claim_1 10 rfl rfl)
theorem dX0_claim_35 : decode cX0_claim 35 = .ok (.goto 21, 3) := dk_167 0 21 (dk_at dksX0_claim_1 11 rfl rfl)
theorem dX0_claim_38 : decode cX0_claim 38 = .ok (.aload_n 0, 1) := dk_42 (dk_at dksX0_claim_1 14 rfl rfl)
theorem dX0_claim_39 : decode cX0_claim 39 = .ok (.new 295, 3) := dk_187 1 39 (dk_at dksX0_claim_1 15 rfl rfl)
theorem dX0_claim_42 : decode cX0_claim 42 = .ok (.dup, 1) := dk_89 (dk_at dksX0_claim_1 18 rfl rfl)
theorem dX0_claim_43 : decode cX0_claim 43 = .ok (.iload_n 1, 1) := dk_27 (dk_at dksX0_claim_1 19 rfl rfl)
theorem dX0_claim_44 : decode cX0_claim 44 = .ok (.iload_n 2, 1) := dk_28 (dk_at dksX0_claim_1 20 rfl rfl)
theorem dX0_claim_45 : decode cX0_claim 45 = .ok (.iload_n 3, 1) := dk_29 (dk_at dksX0_claim_1 21 rfl rfl)
theorem dX0_claim_46 : decode cX0_claim 46 = .ok (.aload_n 0, 1) := dk_42 (dk_at dksX0_claim_1 22 rfl rfl)
theorem dX0_claim_47 : decode cX0_claim 47 = .ok (.getfield 286, 3) := dk_180 1 30 (dk_at dksX0_claim_2 0 rfl rfl)
theorem dX0_claim_50 : decode cX0_claim 50 = .ok (.invokespecial 297, 3) := dk_183 1 41 (dk_at dksX0_claim_2 3 rfl rfl)
theorem dX0_claim_53 : decode cX0_claim 53 = .ok (.invokevirtual 292, 3) := dk_182 1 36 (dk_at dksX0_claim_2 6 rfl rfl)
theorem dX0_claim_56 : decode cX0_claim 56 = .ok (.ireturn, 1) := dk_172 (dk_at dksX0_claim_2 9 rfl rfl)
abbrev cX0_saw : ByteArray := prog_1_method_59_code
def yX0_saw : MethodName := ⟨RX0, "saw", "(IIZ)I"⟩
def dkwX0_saw_2 : List UInt8 := [182, 1, 36, 172]
abbrev dktX0_saw_2 : List UInt8 := dkwX0_saw_2 ++ []
def dkwX0_saw_1 : List UInt8 := [153, 0, 7, 2, 167, 0, 21, 42, 187, 1, 44, 89, 27, 28, 29, 42, 180, 1, 30, 183, 1, 46]
abbrev dktX0_saw_1 : List UInt8 := dkwX0_saw_1 ++ dktX0_saw_2
def dkwX0_saw_0 : List UInt8 := [42, 27, 182, 0, 229, 153, 0, 21, 28, 3, 17, 3, 231, 184, 0, 150, 153, 0, 10, 42, 182, 1, 26]
abbrev dktX0_saw_0 : List UInt8 := dkwX0_saw_0 ++ dktX0_saw_1
theorem dksX0_saw_0 : cX0_saw.data.toList.drop 0 = dktX0_saw_0 := by decide +kernel
theorem dksX0_saw_1 : cX0_saw.data.toList.drop 23 = dktX0_saw_1 := dk_seg dksX0_saw_0 23 rfl rfl
theorem dksX0_saw_2 : cX0_saw.data.toList.drop 45 = dktX0_saw_2 := dk_seg dksX0_saw_1 22 rfl rfl
theorem dX0_saw_0 : decode cX0_saw 0 = .ok (.aload_n 0, 1) := dk_42 (dk_at dksX0_saw_0 0 rfl rfl)
theorem dX0_saw_1 : decode cX0_saw 1 = .ok (.iload_n 1, 1) := dk_27 (dk_at dksX0_saw_0 1 rfl rfl)
theorem dX0_saw_2 : decode cX0_saw 2 = .ok (.invokevirtual 229, 3) := dk_182 0 229 (dk_at dksX0_saw_0 2 rfl rfl)
theorem dX0_saw_5 : decode cX0_saw 5 = .ok (.ifCond .eq 21, 3) := dk_153 0 21 (dk_at dksX0_saw_0 5 rfl rfl)
theorem dX0_saw_8 : decode cX0_saw 8 = .ok (.iload_n 2, 1) := dk_28 (dk_at dksX0_saw_0 8 rfl rfl)
theorem dX0_saw_9 : decode cX0_saw 9 = .ok (.iconst 0, 1) := dk_3 (dk_at dksX0_saw_0 9 rfl rfl)
theorem dX0_saw_10 : decode cX0_saw 10 = .ok (.sipush 999, 3) := dk_17 3 231 (dk_at dksX0_saw_0 10 rfl rfl)
theorem dX0_saw_13 : decode cX0_saw 13 = .ok (.invokestatic 150, 3) := dk_184 0 150 (dk_at dksX0_saw_0 13 rfl rfl)
theorem dX0_saw_16 : decode cX0_saw 16 = .ok (.ifCond .eq 10, 3) := dk_153 0 10 (dk_at dksX0_saw_0 16 rfl rfl)
theorem dX0_saw_19 : decode cX0_saw 19 = .ok (.aload_n 0, 1) := dk_42 (dk_at dksX0_saw_0 19 rfl rfl)
theorem dX0_saw_20 : decode cX0_saw 20 = .ok (.invokevirtual 282, 3) := dk_182 1 26 (dk_at dksX0_saw_0 20 rfl rfl)
theorem dX0_saw_23 : decode cX0_saw 23 = .ok (.ifCond .eq 7, 3) := dk_153 0 7 (dk_at dksX0_saw_1 0 rfl rfl)
theorem dX0_saw_26 : decode cX0_saw 26 = .ok (.iconst (-1), 1) := dk_2 (dk_at dksX0_saw_1 3 rfl rfl)
theorem dX0_saw_27 : decode cX0_saw 27 = .ok (.goto 21, 3) := dk_167 0 21 (dk_at dksX0_saw_1 4 rfl rfl)
theorem dX0_saw_30 : decode cX0_saw 30 = .ok (.aload_n 0, 1) := dk_42 (dk_at dksX0_saw_1 7 rfl rfl)
theorem dX0_saw_31 : decode cX0_saw 31 = .ok (.new 300, 3) := dk_187 1 44 (dk_at dksX0_saw_1 8 rfl rfl)
theorem dX0_saw_34 : decode cX0_saw 34 = .ok (.dup, 1) := dk_89 (dk_at dksX0_saw_1 11 rfl rfl)
theorem dX0_saw_35 : decode cX0_saw 35 = .ok (.iload_n 1, 1) := dk_27 (dk_at dksX0_saw_1 12 rfl rfl)
theorem dX0_saw_36 : decode cX0_saw 36 = .ok (.iload_n 2, 1) := dk_28 (dk_at dksX0_saw_1 13 rfl rfl)
theorem dX0_saw_37 : decode cX0_saw 37 = .ok (.iload_n 3, 1) := dk_29 (dk_at dksX0_saw_1 14 rfl rfl)
theorem dX0_saw_38 : decode cX0_saw 38 = .ok (.aload_n 0, 1) := dk_42 (dk_at dksX0_saw_1 15 rfl rfl)
theorem dX0_saw_39 : decode cX0_saw 39 = .ok (.getfield 286, 3) := dk_180 1 30 (dk_at dksX0_saw_1 16 rfl rfl)
theorem dX0_saw_42 : decode cX0_saw 42 = .ok (.invokespecial 302, 3) := dk_183 1 46 (dk_at dksX0_saw_1 19 rfl rfl)
theorem dX0_saw_45 : decode cX0_saw 45 = .ok (.invokevirtual 292, 3) := dk_182 1 36 (dk_at dksX0_saw_2 0 rfl rfl)
theorem dX0_saw_48 : decode cX0_saw 48 = .ok (.ireturn, 1) := dk_172 (dk_at dksX0_saw_2 3 rfl rfl)
abbrev cX0_link : ByteArray := prog_1_method_61_code
def yX0_link : MethodName := ⟨RX0, "link", "(IIZ)I"⟩
def dkwX0_link_2 : List UInt8 := [180, 1, 30, 183, 1, 54, 182, 1, 36, 172]
abbrev dktX0_link_2 : List UInt8 := dkwX0_link_2 ++ []
def dkwX0_link_1 : List UInt8 := [153, 0, 7, 2, 167, 0, 29, 42, 187, 1, 52, 89, 27, 28, 29, 153, 0, 7, 4, 167, 0, 4, 3, 42]
abbrev dktX0_link_1 : List UInt8 := dkwX0_link_1 ++ dktX0_link_2
def dkwX0_link_0 : List UInt8 := [27, 184, 1, 49, 153, 0, 22, 28, 184, 1, 49, 153, 0, 15, 27, 28, 159, 0, 10, 42, 182, 1, 26]
abbrev dktX0_link_0 : List UInt8 := dkwX0_link_0 ++ dktX0_link_1
theorem dksX0_link_0 : cX0_link.data.toList.drop 0 = dktX0_link_0 := by decide +kernel
theorem dksX0_link_1 : cX0_link.data.toList.drop 23 = dktX0_link_1 := dk_seg dksX0_link_0 23 rfl rfl
theorem dksX0_link_2 : cX0_link.data.toList.drop 47 = dktX0_link_2 := dk_seg dksX0_link_1 24 rfl rfl
theorem dX0_link_0 : decode cX0_link 0 = .ok (.iload_n 1, 1) := dk_27 (dk_at dksX0_link_0 0 rfl rfl)
theorem dX0_link_1 : decode cX0_link 1 = .ok (.invokestatic 305, 3) := dk_184 1 49 (dk_at dksX0_link_0 1 rfl rfl)
theorem dX0_link_4 : decode cX0_link 4 = .ok (.ifCond .eq 22, 3) := dk_153 0 22 (dk_at dksX0_link_0 4 rfl rfl)
theorem dX0_link_7 : decode cX0_link 7 = .ok (.iload_n 2, 1) := dk_28 (dk_at dksX0_link_0 7 rfl rfl)
theorem dX0_link_8 : decode cX0_link 8 = .ok (.invokestatic 305, 3) := dk_184 1 49 (dk_at dksX0_link_0 8 rfl rfl)
theorem dX0_link_11 : decode cX0_link 11 = .ok (.ifCond .eq 15, 3) := dk_153 0 15 (dk_at dksX0_link_0 11 rfl rfl)
theorem dX0_link_14 : decode cX0_link 14 = .ok (.iload_n 1, 1) := dk_27 (dk_at dksX0_link_0 14 rfl rfl)
theorem dX0_link_15 : decode cX0_link 15 = .ok (.iload_n 2, 1) := dk_28 (dk_at dksX0_link_0 15 rfl rfl)
theorem dX0_link_16 : decode cX0_link 16 = .ok (.if_icmp .eq 10, 3) := dk_159 0 10 (dk_at dksX0_link_0 16 rfl rfl)
theorem dX0_link_19 : decode cX0_link 19 = .ok (.aload_n 0, 1) := dk_42 (dk_at dksX0_link_0 19 rfl rfl)
theorem dX0_link_20 : decode cX0_link 20 = .ok (.invokevirtual 282, 3) := dk_182 1 26 (dk_at dksX0_link_0 20 rfl rfl)
theorem dX0_link_23 : decode cX0_link 23 = .ok (.ifCond .eq 7, 3) := dk_153 0 7 (dk_at dksX0_link_1 0 rfl rfl)
theorem dX0_link_26 : decode cX0_link 26 = .ok (.iconst (-1), 1) := dk_2 (dk_at dksX0_link_1 3 rfl rfl)
theorem dX0_link_27 : decode cX0_link 27 = .ok (.goto 29, 3) := dk_167 0 29 (dk_at dksX0_link_1 4 rfl rfl)
theorem dX0_link_30 : decode cX0_link 30 = .ok (.aload_n 0, 1) := dk_42 (dk_at dksX0_link_1 7 rfl rfl)
theorem dX0_link_31 : decode cX0_link 31 = .ok (.new 308, 3) := dk_187 1 52 (dk_at dksX0_link_1 8 rfl rfl)
theorem dX0_link_34 : decode cX0_link 34 = .ok (.dup, 1) := dk_89 (dk_at dksX0_link_1 11 rfl rfl)
theorem dX0_link_35 : decode cX0_link 35 = .ok (.iload_n 1, 1) := dk_27 (dk_at dksX0_link_1 12 rfl rfl)
theorem dX0_link_36 : decode cX0_link 36 = .ok (.iload_n 2, 1) := dk_28 (dk_at dksX0_link_1 13 rfl rfl)
theorem dX0_link_37 : decode cX0_link 37 = .ok (.iload_n 3, 1) := dk_29 (dk_at dksX0_link_1 14 rfl rfl)
theorem dX0_link_38 : decode cX0_link 38 = .ok (.ifCond .eq 7, 3) := dk_153 0 7 (dk_at dksX0_link_1 15 rfl rfl)
theorem dX0_link_41 : decode cX0_link 41 = .ok (.iconst 1, 1) := dk_4 (dk_at dksX0_link_1 18 rfl rfl)
theorem dX0_link_42 : decode cX0_link 42 = .ok (.goto 4, 3) := dk_167 0 4 (dk_at dksX0_link_1 19 rfl rfl)
theorem dX0_link_45 : decode cX0_link 45 = .ok (.iconst 0, 1) := dk_3 (dk_at dksX0_link_1 22 rfl rfl)
theorem dX0_link_46 : decode cX0_link 46 = .ok (.aload_n 0, 1) := dk_42 (dk_at dksX0_link_1 23 rfl rfl)
theorem dX0_link_47 : decode cX0_link 47 = .ok (.getfield 286, 3) := dk_180 1 30 (dk_at dksX0_link_2 0 rfl rfl)
theorem dX0_link_50 : decode cX0_link 50 = .ok (.invokespecial 310, 3) := dk_183 1 54 (dk_at dksX0_link_2 3 rfl rfl)
theorem dX0_link_53 : decode cX0_link 53 = .ok (.invokevirtual 292, 3) := dk_182 1 36 (dk_at dksX0_link_2 6 rfl rfl)
theorem dX0_link_56 : decode cX0_link 56 = .ok (.ireturn, 1) := dk_172 (dk_at dksX0_link_2 9 rfl rfl)
abbrev cX0_isPaper : ByteArray := prog_1_method_60_code
def yX0_isPaper : MethodName := ⟨RX0, "isPaper", "(I)Z"⟩
def dkwX0_isPaper_0 : List UInt8 := [26, 3, 16, 7, 184, 0, 150, 172]
abbrev dktX0_isPaper_0 : List UInt8 := dkwX0_isPaper_0 ++ []
theorem dksX0_isPaper_0 : cX0_isPaper.data.toList.drop 0 = dktX0_isPaper_0 := by decide +kernel
theorem dX0_isPaper_0 : decode cX0_isPaper 0 = .ok (.iload_n 0, 1) := dk_26 (dk_at dksX0_isPaper_0 0 rfl rfl)
theorem dX0_isPaper_1 : decode cX0_isPaper 1 = .ok (.iconst 0, 1) := dk_3 (dk_at dksX0_isPaper_0 1 rfl rfl)
theorem dX0_isPaper_2 : decode cX0_isPaper 2 = .ok (.bipush 7, 2) := dk_16 7 (dk_at dksX0_isPaper_0 2 rfl rfl)
theorem dX0_isPaper_4 : decode cX0_isPaper 4 = .ok (.invokestatic 150, 3) := dk_184 0 150 (dk_at dksX0_isPaper_0 4 rfl rfl)
theorem dX0_isPaper_7 : decode cX0_isPaper 7 = .ok (.ireturn, 1) := dk_172 (dk_at dksX0_isPaper_0 7 rfl rfl)
abbrev cX0_untell : ByteArray := prog_1_method_62_code
def yX0_untell : MethodName := ⟨RX0, "untell", "(I)Z"⟩
def dkwX0_untell_1 : List UInt8 := [182, 1, 55, 192, 1, 59, 42, 180, 1, 30, 182, 1, 61, 153, 0, 7, 4, 167, 0, 4, 3, 172]
abbrev dktX0_untell_1 : List UInt8 := dkwX0_untell_1 ++ []
def dkwX0_untell_0 : List UInt8 := [27, 3, 42, 180, 0, 74, 182, 0, 144, 4, 100, 184, 0, 150, 153, 0, 28, 42, 180, 0, 74, 27]
abbrev dktX0_untell_0 : List UInt8 := dkwX0_untell_0 ++ dktX0_untell_1
theorem dksX0_untell_0 : cX0_untell.data.toList.drop 0 = dktX0_untell_0 := by decide +kernel
theorem dksX0_untell_1 : cX0_untell.data.toList.drop 22 = dktX0_untell_1 := dk_seg dksX0_untell_0 22 rfl rfl
theorem dX0_untell_0 : decode cX0_untell 0 = .ok (.iload_n 1, 1) := dk_27 (dk_at dksX0_untell_0 0 rfl rfl)
theorem dX0_untell_1 : decode cX0_untell 1 = .ok (.iconst 0, 1) := dk_3 (dk_at dksX0_untell_0 1 rfl rfl)
theorem dX0_untell_2 : decode cX0_untell 2 = .ok (.aload_n 0, 1) := dk_42 (dk_at dksX0_untell_0 2 rfl rfl)
theorem dX0_untell_3 : decode cX0_untell 3 = .ok (.getfield 74, 3) := dk_180 0 74 (dk_at dksX0_untell_0 3 rfl rfl)
theorem dX0_untell_6 : decode cX0_untell 6 = .ok (.invokevirtual 144, 3) := dk_182 0 144 (dk_at dksX0_untell_0 6 rfl rfl)
theorem dX0_untell_9 : decode cX0_untell 9 = .ok (.iconst 1, 1) := dk_4 (dk_at dksX0_untell_0 9 rfl rfl)
theorem dX0_untell_10 : decode cX0_untell 10 = .ok (.isub, 1) := dk_100 (dk_at dksX0_untell_0 10 rfl rfl)
theorem dX0_untell_11 : decode cX0_untell 11 = .ok (.invokestatic 150, 3) := dk_184 0 150 (dk_at dksX0_untell_0 11 rfl rfl)
theorem dX0_untell_14 : decode cX0_untell 14 = .ok (.ifCond .eq 28, 3) := dk_153 0 28 (dk_at dksX0_untell_0 14 rfl rfl)
theorem dX0_untell_17 : decode cX0_untell 17 = .ok (.aload_n 0, 1) := dk_42 (dk_at dksX0_untell_0 17 rfl rfl)
theorem dX0_untell_18 : decode cX0_untell 18 = .ok (.getfield 74, 3) := dk_180 0 74 (dk_at dksX0_untell_0 18 rfl rfl)
theorem dX0_untell_21 : decode cX0_untell 21 = .ok (.iload_n 1, 1) := dk_27 (dk_at dksX0_untell_0 21 rfl rfl)
theorem dX0_untell_22 : decode cX0_untell 22 = .ok (.invokevirtual 311, 3) := dk_182 1 55 (dk_at dksX0_untell_1 0 rfl rfl)
theorem dX0_untell_25 : decode cX0_untell 25 = .ok (.checkcast 315, 3) := dk_192 1 59 (dk_at dksX0_untell_1 3 rfl rfl)
theorem dX0_untell_28 : decode cX0_untell 28 = .ok (.aload_n 0, 1) := dk_42 (dk_at dksX0_untell_1 6 rfl rfl)
theorem dX0_untell_29 : decode cX0_untell 29 = .ok (.getfield 286, 3) := dk_180 1 30 (dk_at dksX0_untell_1 7 rfl rfl)
theorem dX0_untell_32 : decode cX0_untell 32 = .ok (.invokevirtual 317, 3) := dk_182 1 61 (dk_at dksX0_untell_1 10 rfl rfl)
theorem dX0_untell_35 : decode cX0_untell 35 = .ok (.ifCond .eq 7, 3) := dk_153 0 7 (dk_at dksX0_untell_1 13 rfl rfl)
theorem dX0_untell_38 : decode cX0_untell 38 = .ok (.iconst 1, 1) := dk_4 (dk_at dksX0_untell_1 16 rfl rfl)
theorem dX0_untell_39 : decode cX0_untell 39 = .ok (.goto 4, 3) := dk_167 0 4 (dk_at dksX0_untell_1 17 rfl rfl)
theorem dX0_untell_42 : decode cX0_untell 42 = .ok (.iconst 0, 1) := dk_3 (dk_at dksX0_untell_1 20 rfl rfl)
theorem dX0_untell_43 : decode cX0_untell 43 = .ok (.ireturn, 1) := dk_172 (dk_at dksX0_untell_1 21 rfl rfl)
abbrev cX0_later : ByteArray := prog_1_method_63_code
def yX0_later : MethodName := ⟨RX0, "later", "(I)I"⟩
def dkwX0_later_1 : List UInt8 := [172, 42, 89, 180, 1, 30, 27, 96, 181, 1, 30, 42, 180, 1, 30, 172]
abbrev dktX0_later_1 : List UInt8 := dkwX0_later_1 ++ []
def dkwX0_later_0 : List UInt8 := [27, 155, 0, 22, 27, 17, 3, 232, 163, 0, 15, 42, 180, 1, 30, 27, 96, 19, 1, 64, 164, 0, 5, 2]
abbrev dktX0_later_0 : List UInt8 := dkwX0_later_0 ++ dktX0_later_1
theorem dksX0_later_0 : cX0_later.data.toList.drop 0 = dktX0_later_0 := by decide +kernel
theorem dksX0_later_1 : cX0_later.data.toList.drop 24 = dktX0_later_1 := dk_seg dksX0_later_0 24 rfl rfl
theorem dX0_later_0 : decode cX0_later 0 = .ok (.iload_n 1, 1) := dk_27 (dk_at dksX0_later_0 0 rfl rfl)
theorem dX0_later_1 : decode cX0_later 1 = .ok (.ifCond .lt 22, 3) := dk_155 0 22 (dk_at dksX0_later_0 1 rfl rfl)
theorem dX0_later_4 : decode cX0_later 4 = .ok (.iload_n 1, 1) := dk_27 (dk_at dksX0_later_0 4 rfl rfl)
theorem dX0_later_5 : decode cX0_later 5 = .ok (.sipush 1000, 3) := dk_17 3 232 (dk_at dksX0_later_0 5 rfl rfl)
theorem dX0_later_8 : decode cX0_later 8 = .ok (.if_icmp .gt 15, 3) := dk_163 0 15 (dk_at dksX0_later_0 8 rfl rfl)
theorem dX0_later_11 : decode cX0_later 11 = .ok (.aload_n 0, 1) := dk_42 (dk_at dksX0_later_0 11 rfl rfl)
theorem dX0_later_12 : decode cX0_later 12 = .ok (.getfield 286, 3) := dk_180 1 30 (dk_at dksX0_later_0 12 rfl rfl)
theorem dX0_later_15 : decode cX0_later 15 = .ok (.iload_n 1, 1) := dk_27 (dk_at dksX0_later_0 15 rfl rfl)
theorem dX0_later_16 : decode cX0_later 16 = .ok (.iadd, 1) := dk_96 (dk_at dksX0_later_0 16 rfl rfl)
theorem dX0_later_17 : decode cX0_later 17 = .ok (.ldc_w 320, 3) := dk_19 1 64 (dk_at dksX0_later_0 17 rfl rfl)
theorem dX0_later_20 : decode cX0_later 20 = .ok (.if_icmp .le 5, 3) := dk_164 0 5 (dk_at dksX0_later_0 20 rfl rfl)
theorem dX0_later_23 : decode cX0_later 23 = .ok (.iconst (-1), 1) := dk_2 (dk_at dksX0_later_0 23 rfl rfl)
theorem dX0_later_24 : decode cX0_later 24 = .ok (.ireturn, 1) := dk_172 (dk_at dksX0_later_1 0 rfl rfl)
theorem dX0_later_25 : decode cX0_later 25 = .ok (.aload_n 0, 1) := dk_42 (dk_at dksX0_later_1 1 rfl rfl)
theorem dX0_later_26 : decode cX0_later 26 = .ok (.dup, 1) := dk_89 (dk_at dksX0_later_1 2 rfl rfl)
theorem dX0_later_27 : decode cX0_later 27 = .ok (.getfield 286, 3) := dk_180 1 30 (dk_at dksX0_later_1 3 rfl rfl)
theorem dX0_later_30 : decode cX0_later 30 = .ok (.iload_n 1, 1) := dk_27 (dk_at dksX0_later_1 6 rfl rfl)
theorem dX0_later_31 : decode cX0_later 31 = .ok (.iadd, 1) := dk_96 (dk_at dksX0_later_1 7 rfl rfl)
theorem dX0_later_32 : decode cX0_later 32 = .ok (.putfield 286, 3) := dk_181 1 30 (dk_at dksX0_later_1 8 rfl rfl)
theorem dX0_later_35 : decode cX0_later 35 = .ok (.aload_n 0, 1) := dk_42 (dk_at dksX0_later_1 11 rfl rfl)
theorem dX0_later_36 : decode cX0_later 36 = .ok (.getfield 286, 3) := dk_180 1 30 (dk_at dksX0_later_1 12 rfl rfl)
theorem dX0_later_39 : decode cX0_later 39 = .ok (.ireturn, 1) := dk_172 (dk_at dksX0_later_1 15 rfl rfl)
abbrev cX0_tree : ByteArray := prog_1_method_70_code
def yX0_tree : MethodName := ⟨RX0, "tree", "(III)I"⟩
def dkwX0_tree_4 : List UInt8 := [172]
abbrev dktX0_tree_4 : List UInt8 := dkwX0_tree_4 ++ []
def dkwX0_tree_3 : List UInt8 := [182, 1, 11, 132, 4, 1, 167, 255, 223, 28, 154, 0, 10, 42, 180, 1, 76, 167, 0, 7, 42, 180, 1, 79]
abbrev dktX0_tree_3 : List UInt8 := dkwX0_tree_3 ++ dktX0_tree_4
def dkwX0_tree_2 : List UInt8 := [180, 1, 65, 162, 0, 30, 42, 21, 4, 27, 160, 0, 7, 2, 167, 0, 10, 42, 180, 0, 87, 21, 4, 46]
abbrev dktX0_tree_2 : List UInt8 := dkwX0_tree_2 ++ dktX0_tree_3
def dkwX0_tree_1 : List UInt8 := [28, 3, 4, 184, 0, 150, 154, 0, 5, 2, 172, 42, 27, 182, 1, 94, 3, 54, 4, 21, 4, 42]
abbrev dktX0_tree_1 : List UInt8 := dkwX0_tree_1 ++ dktX0_tree_2
def dkwX0_tree_0 : List UInt8 := [42, 3, 181, 0, 121, 42, 29, 182, 1, 91, 27, 3, 42, 180, 1, 65, 4, 100, 184, 0, 150, 153, 0, 12]
abbrev dktX0_tree_0 : List UInt8 := dkwX0_tree_0 ++ dktX0_tree_1
theorem dksX0_tree_0 : cX0_tree.data.toList.drop 0 = dktX0_tree_0 := by decide +kernel
theorem dksX0_tree_1 : cX0_tree.data.toList.drop 24 = dktX0_tree_1 := dk_seg dksX0_tree_0 24 rfl rfl
theorem dksX0_tree_2 : cX0_tree.data.toList.drop 46 = dktX0_tree_2 := dk_seg dksX0_tree_1 22 rfl rfl
theorem dksX0_tree_3 : cX0_tree.data.toList.drop 70 = dktX0_tree_3 := dk_seg dksX0_tree_2 24 rfl rfl
theorem dksX0_tree_4 : cX0_tree.data.toList.drop 94 = dktX0_tree_4 := dk_seg dksX0_tree_3 24 rfl rfl
theorem dX0_tree_0 : decode cX0_tree 0 = .ok (.aload_n 0, 1) := dk_42 (dk_at dksX0_tree_0 0 rfl rfl)
theorem dX0_tree_1 : decode cX0_tree 1 = .ok (.iconst 0, 1) := dk_3 (dk_at dksX0_tree_0 1 rfl rfl)
theorem dX0_tree_2 : decode cX0_tree 2 = .ok (.putfield 121, 3) := dk_181 0 121 (dk_at dksX0_tree_0 2 rfl rfl)
theorem dX0_tree_5 : decode cX0_tree 5 = .ok (.aload_n 0, 1) := dk_42 (dk_at dksX0_tree_0 5 rfl rfl)
theorem dX0_tree_6 : decode cX0_tree 6 = .ok (.iload_n 3, 1) := dk_29 (dk_at dksX0_tree_0 6 rfl rfl)
theorem dX0_tree_7 : decode cX0_tree 7 = .ok (.invokevirtual 347, 3) := dk_182 1 91 (dk_at dksX0_tree_0 7 rfl rfl)
theorem dX0_tree_10 : decode cX0_tree 10 = .ok (.iload_n 1, 1) := dk_27 (dk_at dksX0_tree_0 10 rfl rfl)
theorem dX0_tree_11 : decode cX0_tree 11 = .ok (.iconst 0, 1) := dk_3 (dk_at dksX0_tree_0 11 rfl rfl)
theorem dX0_tree_12 : decode cX0_tree 12 = .ok (.aload_n 0, 1) := dk_42 (dk_at dksX0_tree_0 12 rfl rfl)
theorem dX0_tree_13 : decode cX0_tree 13 = .ok (.getfield 321, 3) := dk_180 1 65 (dk_at dksX0_tree_0 13 rfl rfl)
theorem dX0_tree_16 : decode cX0_tree 16 = .ok (.iconst 1, 1) := dk_4 (dk_at dksX0_tree_0 16 rfl rfl)
theorem dX0_tree_17 : decode cX0_tree 17 = .ok (.isub, 1) := dk_100 (dk_at dksX0_tree_0 17 rfl rfl)
theorem dX0_tree_18 : decode cX0_tree 18 = .ok (.invokestatic 150, 3) := dk_184 0 150 (dk_at dksX0_tree_0 18 rfl rfl)
theorem dX0_tree_21 : decode cX0_tree 21 = .ok (.ifCond .eq 12, 3) := dk_153 0 12 (dk_at dksX0_tree_0 21 rfl rfl)
theorem dX0_tree_24 : decode cX0_tree 24 = .ok (.iload_n 2, 1) := dk_28 (dk_at dksX0_tree_1 0 rfl rfl)
theorem dX0_tree_25 : decode cX0_tree 25 = .ok (.iconst 0, 1) := dk_3 (dk_at dksX0_tree_1 1 rfl rfl)
theorem dX0_tree_26 : decode cX0_tree 26 = .ok (.iconst 1, 1) := dk_4 (dk_at dksX0_tree_1 2 rfl rfl)
theorem dX0_tree_27 : decode cX0_tree 27 = .ok (.invokestatic 150, 3) := dk_184 0 150 (dk_at dksX0_tree_1 3 rfl rfl)
theorem dX0_tree_30 : decode cX0_tree 30 = .ok (.ifCond .ne 5, 3) := dk_154 0 5 (dk_at dksX0_tree_1 6 rfl rfl)
theorem dX0_tree_33 : decode cX0_tree 33 = .ok (.iconst (-1), 1) := dk_2 (dk_at dksX0_tree_1 9 rfl rfl)
theorem dX0_tree_34 : decode cX0_tree 34 = .ok (.ireturn, 1) := dk_172 (dk_at dksX0_tree_1 10 rfl rfl)
theorem dX0_tree_35 : decode cX0_tree 35 = .ok (.aload_n 0, 1) := dk_42 (dk_at dksX0_tree_1 11 rfl rfl)
theorem dX0_tree_36 : decode cX0_tree 36 = .ok (.iload_n 1, 1) := dk_27 (dk_at dksX0_tree_1 12 rfl rfl)
theorem dX0_tree_37 : decode cX0_tree 37 = .ok (.invokevirtual 350, 3) := dk_182 1 94 (dk_at dksX0_tree_1 13 rfl rfl)
theorem dX0_tree_40 : decode cX0_tree 40 = .ok (.iconst 0, 1) := dk_3 (dk_at dksX0_tree_1 16 rfl rfl)
theorem dX0_tree_41 : decode cX0_tree 41 = .ok (.istore 4, 2) := dk_54 4 (dk_at dksX0_tree_1 17 rfl rfl)
theorem dX0_tree_43 : decode cX0_tree 43 = .ok (.iload 4, 2) := dk_21 4 (dk_at dksX0_tree_1 19 rfl rfl)
theorem dX0_tree_45 : decode cX0_tree 45 = .ok (.aload_n 0, 1) := dk_42 (dk_at dksX0_tree_1 21 rfl rfl)
theorem dX0_tree_46 : decode cX0_tree 46 = .ok (.getfield 321, 3) := dk_180 1 65 (dk_at dksX0_tree_2 0 rfl rfl)
theorem dX0_tree_49 : decode cX0_tree 49 = .ok (.if_icmp .ge 30, 3) := dk_162 0 30 (dk_at dksX0_tree_2 3 rfl rfl)
theorem dX0_tree_52 : decode cX0_tree 52 = .ok (.aload_n 0, 1) := dk_42 (dk_at dksX0_tree_2 6 rfl rfl)
theorem dX0_tree_53 : decode cX0_tree 53 = .ok (.iload 4, 2) := dk_21 4 (dk_at dksX0_tree_2 7 rfl rfl)
theorem dX0_tree_55 : decode cX0_tree 55 = .ok (.iload_n 1, 1) := dk_27 (dk_at dksX0_tree_2 9 rfl rfl)
theorem dX0_tree_56 : decode cX0_tree 56 = .ok (.if_icmp .ne 7, 3) := dk_160 0 7 (dk_at dksX0_tree_2 10 rfl rfl)
theorem dX0_tree_59 : decode cX0_tree 59 = .ok (.iconst (-1), 1) := dk_2 (dk_at dksX0_tree_2 13 rfl rfl)
theorem dX0_tree_60 : decode cX0_tree 60 = .ok (.goto 10, 3) := dk_167 0 10 (dk_at dksX0_tree_2 14 rfl rfl)
theorem dX0_tree_63 : decode cX0_tree 63 = .ok (.aload_n 0, 1) := dk_42 (dk_at dksX0_tree_2 17 rfl rfl)
theorem dX0_tree_64 : decode cX0_tree 64 = .ok (.getfield 87, 3) := dk_180 0 87 (dk_at dksX0_tree_2 18 rfl rfl)
theorem dX0_tree_67 : decode cX0_tree 67 = .ok (.iload 4, 2) := dk_21 4 (dk_at dksX0_tree_2 21 rfl rfl)
theorem dX0_tree_69 : decode cX0_tree 69 = .ok (.iaload, 1) := dk_46 (dk_at dksX0_tree_2 23 rfl rfl)
theorem dX0_tree_70 : decode cX0_tree 70 = .ok (.invokevirtual 267, 3) := dk_182 1 11 (dk_at dksX0_tree_3 0 rfl rfl)
theorem dX0_tree_73 : decode cX0_tree 73 = .ok (.iinc 4 1, 3) := dk_132 4 1 (dk_at dksX0_tree_3 3 rfl rfl)
theorem dX0_tree_76 : decode cX0_tree 76 = .ok (.goto (-33), 3) := dk_167 255 223 (dk_at dksX0_tree_3 6 rfl rfl)
theorem dX0_tree_79 : decode cX0_tree 79 = .ok (.iload_n 2, 1) := dk_28 (dk_at dksX0_tree_3 9 rfl rfl)
theorem dX0_tree_80 : decode cX0_tree 80 = .ok (.ifCond .ne 10, 3) := dk_154 0 10 (dk_at dksX0_tree_3 10 rfl rfl)
theorem dX0_tree_83 : decode cX0_tree 83 = .ok (.aload_n 0, 1) := dk_42 (dk_at dksX0_tree_3 13 rfl rfl)
theorem dX0_tree_84 : decode cX0_tree 84 = .ok (.getfield 332, 3) := dk_180 1 76 (dk_at dksX0_tree_3 14 rfl rfl)
theorem dX0_tree_87 : decode cX0_tree 87 = .ok (.goto 7, 3) := dk_167 0 7 (dk_at dksX0_tree_3 17 rfl rfl)
theorem dX0_tree_90 : decode cX0_tree 90 = .ok (.aload_n 0, 1) := dk_42 (dk_at dksX0_tree_3 20 rfl rfl)
theorem dX0_tree_91 : decode cX0_tree 91 = .ok (.getfield 335, 3) := dk_180 1 79 (dk_at dksX0_tree_3 21 rfl rfl)
theorem dX0_tree_94 : decode cX0_tree 94 = .ok (.ireturn, 1) := dk_172 (dk_at dksX0_tree_4 0 rfl rfl)
abbrev cX0_laySamples : ByteArray := prog_1_method_64_code
def yX0_laySamples : MethodName := ⟨RX0, "laySamples", "(I)V"⟩
def dkwX0_laySamples_4 : List UInt8 := [132, 2, 1, 167, 255, 168, 177]
abbrev dktX0_laySamples_4 : List UInt8 := dkwX0_laySamples_4 ++ []
def dkwX0_laySamples_3 : List UInt8 := [42, 180, 0, 74, 28, 182, 1, 55, 192, 0, 78, 83, 42, 89, 180, 1, 65, 4, 96, 181, 1, 65]
abbrev dktX0_laySamples_3 : List UInt8 := dkwX0_laySamples_3 ++ dktX0_laySamples_4
def dkwX0_laySamples_2 : List UInt8 := [180, 0, 74, 28, 182, 1, 55, 193, 0, 78, 154, 0, 6, 167, 0, 33, 42, 180, 0, 80, 42, 180, 1, 65]
abbrev dktX0_laySamples_2 : List UInt8 := dkwX0_laySamples_2 ++ dktX0_laySamples_3
def dkwX0_laySamples_1 : List UInt8 := [162, 0, 74, 42, 180, 0, 74, 28, 182, 1, 55, 192, 1, 59, 27, 182, 1, 68, 153, 0, 50, 42]
abbrev dktX0_laySamples_1 : List UInt8 := dkwX0_laySamples_1 ++ dktX0_laySamples_2
def dkwX0_laySamples_0 : List UInt8 := [42, 3, 181, 1, 65, 3, 61, 28, 42, 180, 0, 74, 182, 0, 144, 162, 0, 83, 42, 180, 1, 65, 16, 7]
abbrev dktX0_laySamples_0 : List UInt8 := dkwX0_laySamples_0 ++ dktX0_laySamples_1
theorem dksX0_laySamples_0 : cX0_laySamples.data.toList.drop 0 = dktX0_laySamples_0 := by decide +kernel
theorem dksX0_laySamples_1 : cX0_laySamples.data.toList.drop 24 = dktX0_laySamples_1 := dk_seg dksX0_laySamples_0 24 rfl rfl
theorem dksX0_laySamples_2 : cX0_laySamples.data.toList.drop 46 = dktX0_laySamples_2 := dk_seg dksX0_laySamples_1 22 rfl rfl
theorem dksX0_laySamples_3 : cX0_laySamples.data.toList.drop 70 = dktX0_laySamples_3 := dk_seg dksX0_laySamples_2 24 rfl rfl
theorem dksX0_laySamples_4 : cX0_laySamples.data.toList.drop 92 = dktX0_laySamples_4 := dk_seg dksX0_laySamples_3 22 rfl rfl
theorem dX0_laySamples_0 : decode cX0_laySamples 0 = .ok (.aload_n 0, 1) := dk_42 (dk_at dksX0_laySamples_0 0 rfl rfl)
theorem dX0_laySamples_1 : decode cX0_laySamples 1 = .ok (.iconst 0, 1) := dk_3 (dk_at dksX0_laySamples_0 1 rfl rfl)
theorem dX0_laySamples_2 : decode cX0_laySamples 2 = .ok (.putfield 321, 3) := dk_181 1 65 (dk_at dksX0_laySamples_0 2 rfl rfl)
theorem dX0_laySamples_5 : decode cX0_laySamples 5 = .ok (.iconst 0, 1) := dk_3 (dk_at dksX0_laySamples_0 5 rfl rfl)
theorem dX0_laySamples_6 : decode cX0_laySamples 6 = .ok (.istore_n 2, 1) := dk_61 (dk_at dksX0_laySamples_0 6 rfl rfl)
theorem dX0_laySamples_7 : decode cX0_laySamples 7 = .ok (.iload_n 2, 1) := dk_28 (dk_at dksX0_laySamples_0 7 rfl rfl)
theorem dX0_laySamples_8 : decode cX0_laySamples 8 = .ok (.aload_n 0, 1) := dk_42 (dk_at dksX0_laySamples_0 8 rfl rfl)
theorem dX0_laySamples_9 : decode cX0_laySamples 9 = .ok (.getfield 74, 3) := dk_180 0 74 (dk_at dksX0_laySamples_0 9 rfl rfl)
theorem dX0_laySamples_12 : decode cX0_laySamples 12 = .ok (.invokevirtual 144, 3) := dk_182 0 144 (dk_at dksX0_laySamples_0 12 rfl rfl)
theorem dX0_laySamples_15 : decode cX0_laySamples 15 = .ok (.if_icmp .ge 83, 3) := dk_162 0 83 (dk_at dksX0_laySamples_0 15 rfl rfl)
theorem dX0_laySamples_18 : decode cX0_laySamples 18 = .ok (.aload_n 0, 1) := dk_42 (dk_at dksX0_laySamples_0 18 rfl rfl)
theorem dX0_laySamples_19 : decode cX0_laySamples 19 = .ok (.getfield 321, 3) := dk_180 1 65 (dk_at dksX0_laySamples_0 19 rfl rfl)
theorem dX0_laySamples_22 : decode cX0_laySamples 22 = .ok (.bipush 7, 2) := dk_16 7 (dk_at dksX0_laySamples_0 22 rfl rfl)
theorem dX0_laySamples_24 : decode cX0_laySamples 24 = .ok (.if_icmp .ge 74, 3) := dk_162 0 74 (dk_at dksX0_laySamples_1 0 rfl rfl)
theorem dX0_laySamples_27 : decode cX0_laySamples 27 = .ok (.aload_n 0, 1) := dk_42 (dk_at dksX0_laySamples_1 3 rfl rfl)
theorem dX0_laySamples_28 : decode cX0_laySamples 28 = .ok (.getfield 74, 3) := dk_180 0 74 (dk_at dksX0_laySamples_1 4 rfl rfl)
theorem dX0_laySamples_31 : decode cX0_laySamples 31 = .ok (.iload_n 2, 1) := dk_28 (dk_at dksX0_laySamples_1 7 rfl rfl)
theorem dX0_laySamples_32 : decode cX0_laySamples 32 = .ok (.invokevirtual 311, 3) := dk_182 1 55 (dk_at dksX0_laySamples_1 8 rfl rfl)
theorem dX0_laySamples_35 : decode cX0_laySamples 35 = .ok (.checkcast 315, 3) := dk_192 1 59 (dk_at dksX0_laySamples_1 11 rfl rfl)
theorem dX0_laySamples_38 : decode cX0_laySamples 38 = .ok (.iload_n 1, 1) := dk_27 (dk_at dksX0_laySamples_1 14 rfl rfl)
theorem dX0_laySamples_39 : decode cX0_laySamples 39 = .ok (.invokevirtual 324, 3) := dk_182 1 68 (dk_at dksX0_laySamples_1 15 rfl rfl)
theorem dX0_laySamples_42 : decode cX0_laySamples 42 = .ok (.ifCond .eq 50, 3) := dk_153 0 50 (dk_at dksX0_laySamples_1 18 rfl rfl)
theorem dX0_laySamples_45 : decode cX0_laySamples 45 = .ok (.aload_n 0, 1) := dk_42 (dk_at dksX0_laySamples_1 21 rfl rfl)
theorem dX0_laySamples_46 : decode cX0_laySamples 46 = .ok (.getfield 74, 3) := dk_180 0 74 (dk_at dksX0_laySamples_2 0 rfl rfl)
theorem dX0_laySamples_49 : decode cX0_laySamples 49 = .ok (.iload_n 2, 1) := dk_28 (dk_at dksX0_laySamples_2 3 rfl rfl)
theorem dX0_laySamples_50 : decode cX0_laySamples 50 = .ok (.invokevirtual 311, 3) := dk_182 1 55 (dk_at dksX0_laySamples_2 4 rfl rfl)
theorem dX0_laySamples_53 : decode cX0_laySamples 53 = .ok (.instanceof 78, 3) := dk_193 0 78 (dk_at dksX0_laySamples_2 7 rfl rfl)
theorem dX0_laySamples_56 : decode cX0_laySamples 56 = .ok (.ifCond .ne 6, 3) := dk_154 0 6 (dk_at dksX0_laySamples_2 10 rfl rfl)
theorem dX0_laySamples_59 : decode cX0_laySamples 59 = .ok (.goto 33, 3) := dk_167 0 33 (dk_at dksX0_laySamples_2 13 rfl rfl)
theorem dX0_laySamples_62 : decode cX0_laySamples 62 = .ok (.aload_n 0, 1) := dk_42 (dk_at dksX0_laySamples_2 16 rfl rfl)
theorem dX0_laySamples_63 : decode cX0_laySamples 63 = .ok (.getfield 80, 3) := dk_180 0 80 (dk_at dksX0_laySamples_2 17 rfl rfl)
theorem dX0_laySamples_66 : decode cX0_laySamples 66 = .ok (.aload_n 0, 1) := dk_42 (dk_at dksX0_laySamples_2 20 rfl rfl)
theorem dX0_laySamples_67 : decode cX0_laySamples 67 = .ok (.getfield 321, 3) := dk_180 1 65 (dk_at dksX0_laySamples_2 21 rfl rfl)
theorem dX0_laySamples_70 : decode cX0_laySamples 70 = .ok (.aload_n 0, 1) := dk_42 (dk_at dksX0_laySamples_3 0 rfl rfl)
theorem dX0_laySamples_71 : decode cX0_laySamples 71 = .ok (.getfield 74, 3) := dk_180 0 74 (dk_at dksX0_laySamples_3 1 rfl rfl)
theorem dX0_laySamples_74 : decode cX0_laySamples 74 = .ok (.iload_n 2, 1) := dk_28 (dk_at dksX0_laySamples_3 4 rfl rfl)
theorem dX0_laySamples_75 : decode cX0_laySamples 75 = .ok (.invokevirtual 311, 3) := dk_182 1 55 (dk_at dksX0_laySamples_3 5 rfl rfl)
theorem dX0_laySamples_78 : decode cX0_laySamples 78 = .ok (.checkcast 78, 3) := dk_192 0 78 (dk_at dksX0_laySamples_3 8 rfl rfl)
theorem dX0_laySamples_81 : decode cX0_laySamples 81 = .ok (.aastore, 1) := dk_83 (dk_at dksX0_laySamples_3 11 rfl rfl)
theorem dX0_laySamples_82 : decode cX0_laySamples 82 = .ok (.aload_n 0, 1) := dk_42 (dk_at dksX0_laySamples_3 12 rfl rfl)
theorem dX0_laySamples_83 : decode cX0_laySamples 83 = .ok (.dup, 1) := dk_89 (dk_at dksX0_laySamples_3 13 rfl rfl)
theorem dX0_laySamples_84 : decode cX0_laySamples 84 = .ok (.getfield 321, 3) := dk_180 1 65 (dk_at dksX0_laySamples_3 14 rfl rfl)
theorem dX0_laySamples_87 : decode cX0_laySamples 87 = .ok (.iconst 1, 1) := dk_4 (dk_at dksX0_laySamples_3 17 rfl rfl)
theorem dX0_laySamples_88 : decode cX0_laySamples 88 = .ok (.iadd, 1) := dk_96 (dk_at dksX0_laySamples_3 18 rfl rfl)
theorem dX0_laySamples_89 : decode cX0_laySamples 89 = .ok (.putfield 321, 3) := dk_181 1 65 (dk_at dksX0_laySamples_3 19 rfl rfl)
theorem dX0_laySamples_92 : decode cX0_laySamples 92 = .ok (.iinc 2 1, 3) := dk_132 2 1 (dk_at dksX0_laySamples_4 0 rfl rfl)
theorem dX0_laySamples_95 : decode cX0_laySamples 95 = .ok (.goto (-88), 3) := dk_167 255 168 (dk_at dksX0_laySamples_4 3 rfl rfl)
theorem dX0_laySamples_98 : decode cX0_laySamples 98 = .ok (.return_, 1) := dk_177 (dk_at dksX0_laySamples_4 6 rfl rfl)
abbrev cX0_layTrees : ByteArray := prog_1_method_69_code
def yX0_layTrees : MethodName := ⟨RX0, "layTrees", "(I)V"⟩
def dkwX0_layTrees_5 : List UInt8 := [160, 0, 7, 4, 167, 0, 4, 3, 96, 181, 1, 79, 132, 3, 1, 167, 255, 163, 177]
abbrev dktX0_layTrees_5 : List UInt8 := dkwX0_layTrees_5 ++ []
def dkwX0_layTrees_4 : List UInt8 := [3, 42, 180, 0, 87, 3, 16, 7, 184, 0, 210, 42, 89, 180, 1, 79, 21, 4, 42, 180, 1, 76]
abbrev dktX0_layTrees_4 : List UInt8 := dkwX0_layTrees_4 ++ dktX0_layTrees_5
def dkwX0_layTrees_3 : List UInt8 := [21, 4, 42, 180, 1, 76, 162, 0, 29, 42, 21, 4, 181, 1, 76, 42, 3, 181, 1, 79, 42, 180, 0, 84]
abbrev dktX0_layTrees_3 : List UInt8 := dkwX0_layTrees_3 ++ dktX0_layTrees_4
def dkwX0_layTrees_2 : List UInt8 := [182, 1, 82, 153, 0, 79, 42, 27, 182, 1, 85, 154, 0, 6, 167, 0, 68, 42, 27, 182, 1, 88, 54, 4]
abbrev dktX0_layTrees_2 : List UInt8 := dkwX0_layTrees_2 ++ dktX0_layTrees_3
def dkwX0_layTrees_1 : List UInt8 := [28, 42, 180, 1, 65, 104, 61, 132, 3, 1, 167, 255, 238, 3, 62, 29, 28, 162, 0, 94, 42, 29, 27]
abbrev dktX0_layTrees_1 : List UInt8 := dkwX0_layTrees_1 ++ dktX0_layTrees_2
def dkwX0_layTrees_0 : List UInt8 := [42, 19, 1, 7, 181, 1, 76, 42, 3, 181, 1, 79, 4, 61, 4, 62, 29, 42, 180, 1, 65, 162, 0, 16]
abbrev dktX0_layTrees_0 : List UInt8 := dkwX0_layTrees_0 ++ dktX0_layTrees_1
theorem dksX0_layTrees_0 : cX0_layTrees.data.toList.drop 0 = dktX0_layTrees_0 := by decide +kernel
theorem dksX0_layTrees_1 : cX0_layTrees.data.toList.drop 24 = dktX0_layTrees_1 := dk_seg dksX0_layTrees_0 24 rfl rfl
theorem dksX0_layTrees_2 : cX0_layTrees.data.toList.drop 47 = dktX0_layTrees_2 := dk_seg dksX0_layTrees_1 23 rfl rfl
theorem dksX0_layTrees_3 : cX0_layTrees.data.toList.drop 71 = dktX0_layTrees_3 := dk_seg dksX0_layTrees_2 24 rfl rfl
theorem dksX0_layTrees_4 : cX0_layTrees.data.toList.drop 95 = dktX0_layTrees_4 := dk_seg dksX0_layTrees_3 24 rfl rfl
theorem dksX0_layTrees_5 : cX0_layTrees.data.toList.drop 117 = dktX0_layTrees_5 := dk_seg dksX0_layTrees_4 22 rfl rfl
theorem dX0_layTrees_0 : decode cX0_layTrees 0 = .ok (.aload_n 0, 1) := dk_42 (dk_at dksX0_layTrees_0 0 rfl rfl)
theorem dX0_layTrees_1 : decode cX0_layTrees 1 = .ok (.ldc_w 263, 3) := dk_19 1 7 (dk_at dksX0_layTrees_0 1 rfl rfl)
theorem dX0_layTrees_4 : decode cX0_layTrees 4 = .ok (.putfield 332, 3) := dk_181 1 76 (dk_at dksX0_layTrees_0 4 rfl rfl)
theorem dX0_layTrees_7 : decode cX0_layTrees 7 = .ok (.aload_n 0, 1) := dk_42 (dk_at dksX0_layTrees_0 7 rfl rfl)
theorem dX0_layTrees_8 : decode cX0_layTrees 8 = .ok (.iconst 0, 1) := dk_3 (dk_at dksX0_layTrees_0 8 rfl rfl)
theorem dX0_layTrees_9 : decode cX0_layTrees 9 = .ok (.putfield 335, 3) := dk_181 1 79 (dk_at dksX0_layTrees_0 9 rfl rfl)
theorem dX0_layTrees_12 : decode cX0_layTrees 12 = .ok (.iconst 1, 1) := dk_4 (dk_at dksX0_layTrees_0 12 rfl rfl)
theorem dX0_layTrees_13 : decode cX0_layTrees 13 = .ok (.istore_n 2, 1) := dk_61 (dk_at dksX0_layTrees_0 13 rfl rfl)
theorem dX0_layTrees_14 : decode cX0_layTrees 14 = .ok (.iconst 1, 1) := dk_4 (dk_at dksX0_layTrees_0 14 rfl rfl)
theorem dX0_layTrees_15 : decode cX0_layTrees 15 = .ok (.istore_n 3, 1) := dk_62 (dk_at dksX0_layTrees_0 15 rfl rfl)
theorem dX0_layTrees_16 : decode cX0_layTrees 16 = .ok (.iload_n 3, 1) := dk_29 (dk_at dksX0_layTrees_0 16 rfl rfl)
theorem dX0_layTrees_17 : decode cX0_layTrees 17 = .ok (.aload_n 0, 1) := dk_42 (dk_at dksX0_layTrees_0 17 rfl rfl)
theorem dX0_layTrees_18 : decode cX0_layTrees 18 = .ok (.getfield 321, 3) := dk_180 1 65 (dk_at dksX0_layTrees_0 18 rfl rfl)
theorem dX0_layTrees_21 : decode cX0_layTrees 21 = .ok (.if_icmp .ge 16, 3) := dk_162 0 16 (dk_at dksX0_layTrees_0 21 rfl rfl)
theorem dX0_layTrees_24 : decode cX0_layTrees 24 = .ok (.iload_n 2, 1) := dk_28 (dk_at dksX0_layTrees_1 0 rfl rfl)
theorem dX0_layTrees_25 : decode cX0_layTrees 25 = .ok (.aload_n 0, 1) := dk_42 (dk_at dksX0_layTrees_1 1 rfl rfl)
theorem dX0_layTrees_26 : decode cX0_layTrees 26 = .ok (.getfield 321, 3) := dk_180 1 65 (dk_at dksX0_layTrees_1 2 rfl rfl)
theorem dX0_layTrees_29 : decode cX0_layTrees 29 = .ok (.imul, 1) := dk_104 (dk_at dksX0_layTrees_1 5 rfl rfl)
theorem dX0_layTrees_30 : decode cX0_layTrees 30 = .ok (.istore_n 2, 1) := dk_61 (dk_at dksX0_layTrees_1 6 rfl rfl)
theorem dX0_layTrees_31 : decode cX0_layTrees 31 = .ok (.iinc 3 1, 3) := dk_132 3 1 (dk_at dksX0_layTrees_1 7 rfl rfl)
theorem dX0_layTrees_34 : decode cX0_layTrees 34 = .ok (.goto (-18), 3) := dk_167 255 238 (dk_at dksX0_layTrees_1 10 rfl rfl)
theorem dX0_layTrees_37 : decode cX0_layTrees 37 = .ok (.iconst 0, 1) := dk_3 (dk_at dksX0_layTrees_1 13 rfl rfl)
theorem dX0_layTrees_38 : decode cX0_layTrees 38 = .ok (.istore_n 3, 1) := dk_62 (dk_at dksX0_layTrees_1 14 rfl rfl)
theorem dX0_layTrees_39 : decode cX0_layTrees 39 = .ok (.iload_n 3, 1) := dk_29 (dk_at dksX0_layTrees_1 15 rfl rfl)
theorem dX0_layTrees_40 : decode cX0_layTrees 40 = .ok (.iload_n 2, 1) := dk_28 (dk_at dksX0_layTrees_1 16 rfl rfl)
theorem dX0_layTrees_41 : decode cX0_layTrees 41 = .ok (.if_icmp .ge 94, 3) := dk_162 0 94 (dk_at dksX0_layTrees_1 17 rfl rfl)
theorem dX0_layTrees_44 : decode cX0_layTrees 44 = .ok (.aload_n 0, 1) := dk_42 (dk_at dksX0_layTrees_1 20 rfl rfl)
theorem dX0_layTrees_45 : decode cX0_layTrees 45 = .ok (.iload_n 3, 1) := dk_29 (dk_at dksX0_layTrees_1 21 rfl rfl)
theorem dX0_layTrees_46 : decode cX0_layTrees 46 = .ok (.iload_n 1, 1) := dk_27 (dk_at dksX0_layTrees_1 22 rfl rfl)
theorem dX0_layTrees_47 : decode cX0_layTrees 47 = .ok (.invokevirtual 338, 3) := dk_182 1 82 (dk_at dksX0_layTrees_2 0 rfl rfl)
theorem dX0_layTrees_50 : decode cX0_layTrees 50 = .ok (.ifCond .eq 79, 3) := dk_153 0 79 (dk_at dksX0_layTrees_2 3 rfl rfl)
theorem dX0_layTrees_53 : decode cX0_layTrees 53 = .ok (.aload_n 0, 1) := dk_42 (dk_at dksX0_layTrees_2 6 rfl rfl)
theorem dX0_layTrees_54 : decode cX0_layTrees 54 = .ok (.iload_n 1, 1) := dk_27 (dk_at dksX0_layTrees_2 7 rfl rfl)
theorem dX0_layTrees_55 : decode cX0_layTrees 55 = .ok (.invokevirtual 341, 3) := dk_182 1 85 (dk_at dksX0_layTrees_2 8 rfl rfl)
theorem dX0_layTrees_58 : decode cX0_layTrees 58 = .ok (.ifCond .ne 6, 3) := dk_154 0 6 (dk_at dksX0_layTrees_2 11 rfl rfl)
theorem dX0_layTrees_61 : decode cX0_layTrees 61 = .ok (.goto 68, 3) := dk_167 0 68 (dk_at dksX0_layTrees_2 14 rfl rfl)
theorem dX0_layTrees_64 : decode cX0_layTrees 64 = .ok (.aload_n 0, 1) := dk_42 (dk_at dksX0_layTrees_2 17 rfl rfl)
theorem dX0_layTrees_65 : decode cX0_layTrees 65 = .ok (.iload_n 1, 1) := dk_27 (dk_at dksX0_layTrees_2 18 rfl rfl)
theorem dX0_layTrees_66 : decode cX0_layTrees 66 = .ok (.invokevirtual 344, 3) := dk_182 1 88 (dk_at dksX0_layTrees_2 19 rfl rfl)
theorem dX0_layTrees_69 : decode cX0_layTrees 69 = .ok (.istore 4, 2) := dk_54 4 (dk_at dksX0_layTrees_2 22 rfl rfl)
theorem dX0_layTrees_71 : decode cX0_layTrees 71 = .ok (.iload 4, 2) := dk_21 4 (dk_at dksX0_layTrees_3 0 rfl rfl)
theorem dX0_layTrees_73 : decode cX0_layTrees 73 = .ok (.aload_n 0, 1) := dk_42 (dk_at dksX0_layTrees_3 2 rfl rfl)
theorem dX0_layTrees_74 : decode cX0_layTrees 74 = .ok (.getfield 332, 3) := dk_180 1 76 (dk_at dksX0_layTrees_3 3 rfl rfl)
theorem dX0_layTrees_77 : decode cX0_layTrees 77 = .ok (.if_icmp .ge 29, 3) := dk_162 0 29 (dk_at dksX0_layTrees_3 6 rfl rfl)
theorem dX0_layTrees_80 : decode cX0_layTrees 80 = .ok (.aload_n 0, 1) := dk_42 (dk_at dksX0_layTrees_3 9 rfl rfl)
theorem dX0_layTrees_81 : decode cX0_layTrees 81 = .ok (.iload 4, 2) := dk_21 4 (dk_at dksX0_layTrees_3 10 rfl rfl)
theorem dX0_layTrees_83 : decode cX0_layTrees 83 = .ok (.putfield 332, 3) := dk_181 1 76 (dk_at dksX0_layTrees_3 12 rfl rfl)
theorem dX0_layTrees_86 : decode cX0_layTrees 86 = .ok (.aload_n 0, 1) := dk_42 (dk_at dksX0_layTrees_3 15 rfl rfl)
theorem dX0_layTrees_87 : decode cX0_layTrees 87 = .ok (.iconst 0, 1) := dk_3 (dk_at dksX0_layTrees_3 16 rfl rfl)
theorem dX0_layTrees_88 : decode cX0_layTrees 88 = .ok (.putfield 335, 3) := dk_181 1 79 (dk_at dksX0_layTrees_3 17 rfl rfl)
theorem dX0_layTrees_91 : decode cX0_layTrees 91 = .ok (.aload_n 0, 1) := dk_42 (dk_at dksX0_layTrees_3 20 rfl rfl)
theorem dX0_layTrees_92 : decode cX0_layTrees 92 = .ok (.getfield 84, 3) := dk_180 0 84 (dk_at dksX0_layTrees_3 21 rfl rfl)
theorem dX0_layTrees_95 : decode cX0_layTrees 95 = .ok (.iconst 0, 1) := dk_3 (dk_at dksX0_layTrees_4 0 rfl rfl)
theorem dX0_layTrees_96 : decode cX0_layTrees 96 = .ok (.aload_n 0, 1) := dk_42 (dk_at dksX0_layTrees_4 1 rfl rfl)
theorem dX0_layTrees_97 : decode cX0_layTrees 97 = .ok (.getfield 87, 3) := dk_180 0 87 (dk_at dksX0_layTrees_4 2 rfl rfl)
theorem dX0_layTrees_100 : decode cX0_layTrees 100 = .ok (.iconst 0, 1) := dk_3 (dk_at dksX0_layTrees_4 5 rfl rfl)
theorem dX0_layTrees_101 : decode cX0_layTrees 101 = .ok (.bipush 7, 2) := dk_16 7 (dk_at dksX0_layTrees_4 6 rfl rfl)
theorem dX0_layTrees_103 : decode cX0_layTrees 103 = .ok (.invokestatic 210, 3) := dk_184 0 210 (dk_at dksX0_layTrees_4 8 rfl rfl)
theorem dX0_layTrees_106 : decode cX0_layTrees 106 = .ok (.aload_n 0, 1) := dk_42 (dk_at dksX0_layTrees_4 11 rfl rfl)
theorem dX0_layTrees_107 : decode cX0_layTrees 107 = .ok (.dup, 1) := dk_89 (dk_at dksX0_layTrees_4 12 rfl rfl)
theorem dX0_layTrees_108 : decode cX0_layTrees 108 = .ok (.getfield 335, 3) := dk_180 1 79 (dk_at dksX0_layTrees_4 13 rfl rfl)
theorem dX0_layTrees_111 : decode cX0_layTrees 111 = .ok (.iload 4, 2) := dk_21 4 (dk_at dksX0_layTrees_4 16 rfl rfl)
theorem dX0_layTrees_113 : decode cX0_layTrees 113 = .ok (.aload_n 0, 1) := dk_42 (dk_at dksX0_layTrees_4 18 rfl rfl)
theorem dX0_layTrees_114 : decode cX0_layTrees 114 = .ok (.getfield 332, 3) := dk_180 1 76 (dk_at dksX0_layTrees_4 19 rfl rfl)
theorem dX0_layTrees_117 : decode cX0_layTrees 117 = .ok (.if_icmp .ne 7, 3) := dk_160 0 7 (dk_at dksX0_layTrees_5 0 rfl rfl)
theorem dX0_layTrees_120 : decode cX0_layTrees 120 = .ok (.iconst 1, 1) := dk_4 (dk_at dksX0_layTrees_5 3 rfl rfl)
theorem dX0_layTrees_121 : decode cX0_layTrees 121 = .ok (.goto 4, 3) := dk_167 0 4 (dk_at dksX0_layTrees_5 4 rfl rfl)
theorem dX0_layTrees_124 : decode cX0_layTrees 124 = .ok (.iconst 0, 1) := dk_3 (dk_at dksX0_layTrees_5 7 rfl rfl)
theorem dX0_layTrees_125 : decode cX0_layTrees 125 = .ok (.iadd, 1) := dk_96 (dk_at dksX0_layTrees_5 8 rfl rfl)
theorem dX0_layTrees_126 : decode cX0_layTrees 126 = .ok (.putfield 335, 3) := dk_181 1 79 (dk_at dksX0_layTrees_5 9 rfl rfl)
theorem dX0_layTrees_129 : decode cX0_layTrees 129 = .ok (.iinc 3 1, 3) := dk_132 3 1 (dk_at dksX0_layTrees_5 12 rfl rfl)
theorem dX0_layTrees_132 : decode cX0_layTrees 132 = .ok (.goto (-93), 3) := dk_167 255 163 (dk_at dksX0_layTrees_5 15 rfl rfl)
theorem dX0_layTrees_135 : decode cX0_layTrees 135 = .ok (.return_, 1) := dk_177 (dk_at dksX0_layTrees_5 18 rfl rfl)
abbrev cX0_layFrom : ByteArray := prog_1_method_67_code
def yX0_layFrom : MethodName := ⟨RX0, "layFrom", "(II)Z"⟩
def dkwX0_layFrom_3 : List UInt8 := [159, 0, 7, 4, 167, 0, 4, 3, 54, 4, 132, 5, 255, 167, 255, 186, 21, 4, 172]
abbrev dktX0_layFrom_3 : List UInt8 := dkwX0_layFrom_3 ++ []
def dkwX0_layFrom_2 : List UInt8 := [79, 29, 42, 180, 1, 65, 108, 62, 21, 4, 153, 0, 19, 42, 180, 0, 84, 21, 5, 46, 21, 5]
abbrev dktX0_layFrom_2 : List UInt8 := dkwX0_layFrom_2 ++ dktX0_layFrom_3
def dkwX0_layFrom_1 : List UInt8 := [42, 180, 0, 84, 21, 5, 21, 5, 79, 167, 0, 47, 42, 180, 0, 84, 21, 5, 29, 42, 180, 1, 65, 112]
abbrev dktX0_layFrom_1 : List UInt8 := dkwX0_layFrom_1 ++ dktX0_layFrom_2
def dkwX0_layFrom_0 : List UInt8 := [27, 62, 4, 54, 4, 42, 180, 1, 65, 4, 100, 54, 5, 21, 5, 155, 0, 71, 21, 5, 28, 160, 0, 15]
abbrev dktX0_layFrom_0 : List UInt8 := dkwX0_layFrom_0 ++ dktX0_layFrom_1
theorem dksX0_layFrom_0 : cX0_layFrom.data.toList.drop 0 = dktX0_layFrom_0 := by decide +kernel
theorem dksX0_layFrom_1 : cX0_layFrom.data.toList.drop 24 = dktX0_layFrom_1 := dk_seg dksX0_layFrom_0 24 rfl rfl
theorem dksX0_layFrom_2 : cX0_layFrom.data.toList.drop 48 = dktX0_layFrom_2 := dk_seg dksX0_layFrom_1 24 rfl rfl
theorem dksX0_layFrom_3 : cX0_layFrom.data.toList.drop 70 = dktX0_layFrom_3 := dk_seg dksX0_layFrom_2 22 rfl rfl
theorem dX0_layFrom_0 : decode cX0_layFrom 0 = .ok (.iload_n 1, 1) := dk_27 (dk_at dksX0_layFrom_0 0 rfl rfl)
theorem dX0_layFrom_1 : decode cX0_layFrom 1 = .ok (.istore_n 3, 1) := dk_62 (dk_at dksX0_layFrom_0 1 rfl rfl)
theorem dX0_layFrom_2 : decode cX0_layFrom 2 = .ok (.iconst 1, 1) := dk_4 (dk_at dksX0_layFrom_0 2 rfl rfl)
theorem dX0_layFrom_3 : decode cX0_layFrom 3 = .ok (.istore 4, 2) := dk_54 4 (dk_at dksX0_layFrom_0 3 rfl rfl)
theorem dX0_layFrom_5 : decode cX0_layFrom 5 = .ok (.aload_n 0, 1) := dk_42 (dk_at dksX0_layFrom_0 5 rfl rfl)
theorem dX0_layFrom_6 : decode cX0_layFrom 6 = .ok (.getfield 321, 3) := dk_180 1 65 (dk_at dksX0_layFrom_0 6 rfl rfl)
theorem dX0_layFrom_9 : decode cX0_layFrom 9 = .ok (.iconst 1, 1) := dk_4 (dk_at dksX0_layFrom_0 9 rfl rfl)
theorem dX0_layFrom_10 : decode cX0_layFrom 10 = .ok (.isub, 1) := dk_100 (dk_at dksX0_layFrom_0 10 rfl rfl)
theorem dX0_layFrom_11 : decode cX0_layFrom 11 = .ok (.istore 5, 2) := dk_54 5 (dk_at dksX0_layFrom_0 11 rfl rfl)
theorem dX0_layFrom_13 : decode cX0_layFrom 13 = .ok (.iload 5, 2) := dk_21 5 (dk_at dksX0_layFrom_0 13 rfl rfl)
theorem dX0_layFrom_15 : decode cX0_layFrom 15 = .ok (.ifCond .lt 71, 3) := dk_155 0 71 (dk_at dksX0_layFrom_0 15 rfl rfl)
theorem dX0_layFrom_18 : decode cX0_layFrom 18 = .ok (.iload 5, 2) := dk_21 5 (dk_at dksX0_layFrom_0 18 rfl rfl)
theorem dX0_layFrom_20 : decode cX0_layFrom 20 = .ok (.iload_n 2, 1) := dk_28 (dk_at dksX0_layFrom_0 20 rfl rfl)
theorem dX0_layFrom_21 : decode cX0_layFrom 21 = .ok (.if_icmp .ne 15, 3) := dk_160 0 15 (dk_at dksX0_layFrom_0 21 rfl rfl)
theorem dX0_layFrom_24 : decode cX0_layFrom 24 = .ok (.aload_n 0, 1) := dk_42 (dk_at dksX0_layFrom_1 0 rfl rfl)
theorem dX0_layFrom_25 : decode cX0_layFrom 25 = .ok (.getfield 84, 3) := dk_180 0 84 (dk_at dksX0_layFrom_1 1 rfl rfl)
theorem dX0_layFrom_28 : decode cX0_layFrom 28 = .ok (.iload 5, 2) := dk_21 5 (dk_at dksX0_layFrom_1 4 rfl rfl)
theorem dX0_layFrom_30 : decode cX0_layFrom 30 = .ok (.iload 5, 2) := dk_21 5 (dk_at dksX0_layFrom_1 6 rfl rfl)
theorem dX0_layFrom_32 : decode cX0_layFrom 32 = .ok (.iastore, 1) := dk_79 (dk_at dksX0_layFrom_1 8 rfl rfl)
theorem dX0_layFrom_33 : decode cX0_layFrom 33 = .ok (.goto 47, 3) := dk_167 0 47 (dk_at dksX0_layFrom_1 9 rfl rfl)
theorem dX0_layFrom_36 : decode cX0_layFrom 36 = .ok (.aload_n 0, 1) := dk_42 (dk_at dksX0_layFrom_1 12 rfl rfl)
theorem dX0_layFrom_37 : decode cX0_layFrom 37 = .ok (.getfield 84, 3) := dk_180 0 84 (dk_at dksX0_layFrom_1 13 rfl rfl)
theorem dX0_layFrom_40 : decode cX0_layFrom 40 = .ok (.iload 5, 2) := dk_21 5 (dk_at dksX0_layFrom_1 16 rfl rfl)
theorem dX0_layFrom_42 : decode cX0_layFrom 42 = .ok (.iload_n 3, 1) := dk_29 (dk_at dksX0_layFrom_1 18 rfl rfl)
theorem dX0_layFrom_43 : decode cX0_layFrom 43 = .ok (.aload_n 0, 1) := dk_42 (dk_at dksX0_layFrom_1 19 rfl rfl)
theorem dX0_layFrom_44 : decode cX0_layFrom 44 = .ok (.getfield 321, 3) := dk_180 1 65 (dk_at dksX0_layFrom_1 20 rfl rfl)
theorem dX0_layFrom_47 : decode cX0_layFrom 47 = .ok (.irem, 1) := dk_112 (dk_at dksX0_layFrom_1 23 rfl rfl)
theorem dX0_layFrom_48 : decode cX0_layFrom 48 = .ok (.iastore, 1) := dk_79 (dk_at dksX0_layFrom_2 0 rfl rfl)
theorem dX0_layFrom_49 : decode cX0_layFrom 49 = .ok (.iload_n 3, 1) := dk_29 (dk_at dksX0_layFrom_2 1 rfl rfl)
theorem dX0_layFrom_50 : decode cX0_layFrom 50 = .ok (.aload_n 0, 1) := dk_42 (dk_at dksX0_layFrom_2 2 rfl rfl)
theorem dX0_layFrom_51 : decode cX0_layFrom 51 = .ok (.getfield 321, 3) := dk_180 1 65 (dk_at dksX0_layFrom_2 3 rfl rfl)
theorem dX0_layFrom_54 : decode cX0_layFrom 54 = .ok (.idiv, 1) := dk_108 (dk_at dksX0_layFrom_2 6 rfl rfl)
theorem dX0_layFrom_55 : decode cX0_layFrom 55 = .ok (.istore_n 3, 1) := dk_62 (dk_at dksX0_layFrom_2 7 rfl rfl)
theorem dX0_layFrom_56 : decode cX0_layFrom 56 = .ok (.iload 4, 2) := dk_21 4 (dk_at dksX0_layFrom_2 8 rfl rfl)
theorem dX0_layFrom_58 : decode cX0_layFrom 58 = .ok (.ifCond .eq 19, 3) := dk_153 0 19 (dk_at dksX0_layFrom_2 10 rfl rfl)
theorem dX0_layFrom_61 : decode cX0_layFrom 61 = .ok (.aload_n 0, 1) := dk_42 (dk_at dksX0_layFrom_2 13 rfl rfl)
theorem dX0_layFrom_62 : decode cX0_layFrom 62 = .ok (.getfield 84, 3) := dk_180 0 84 (dk_at dksX0_layFrom_2 14 rfl rfl)
theorem dX0_layFrom_65 : decode cX0_layFrom 65 = .ok (.iload 5, 2) := dk_21 5 (dk_at dksX0_layFrom_2 17 rfl rfl)
theorem dX0_layFrom_67 : decode cX0_layFrom 67 = .ok (.iaload, 1) := dk_46 (dk_at dksX0_layFrom_2 19 rfl rfl)
theorem dX0_layFrom_68 : decode cX0_layFrom 68 = .ok (.iload 5, 2) := dk_21 5 (dk_at dksX0_layFrom_2 20 rfl rfl)
theorem dX0_layFrom_70 : decode cX0_layFrom 70 = .ok (.if_icmp .eq 7, 3) := dk_159 0 7 (dk_at dksX0_layFrom_3 0 rfl rfl)
theorem dX0_layFrom_73 : decode cX0_layFrom 73 = .ok (.iconst 1, 1) := dk_4 (dk_at dksX0_layFrom_3 3 rfl rfl)
theorem dX0_layFrom_74 : decode cX0_layFrom 74 = .ok (.goto 4, 3) := dk_167 0 4 (dk_at dksX0_layFrom_3 4 rfl rfl)
theorem dX0_layFrom_77 : decode cX0_layFrom 77 = .ok (.iconst 0, 1) := dk_3 (dk_at dksX0_layFrom_3 7 rfl rfl)
theorem dX0_layFrom_78 : decode cX0_layFrom 78 = .ok (.istore 4, 2) := dk_54 4 (dk_at dksX0_layFrom_3 8 rfl rfl)
theorem dX0_layFrom_80 : decode cX0_layFrom 80 = .ok (.iinc 5 (-1), 3) := dk_132 5 255 (dk_at dksX0_layFrom_3 10 rfl rfl)
theorem dX0_layFrom_83 : decode cX0_layFrom 83 = .ok (.goto (-70), 3) := dk_167 255 186 (dk_at dksX0_layFrom_3 13 rfl rfl)
theorem dX0_layFrom_86 : decode cX0_layFrom 86 = .ok (.iload 4, 2) := dk_21 4 (dk_at dksX0_layFrom_3 16 rfl rfl)
theorem dX0_layFrom_88 : decode cX0_layFrom 88 = .ok (.ireturn, 1) := dk_172 (dk_at dksX0_layFrom_3 18 rfl rfl)
abbrev cX0_isTree : ByteArray := prog_1_method_66_code
def yX0_isTree : MethodName := ⟨RX0, "isTree", "(I)Z"⟩
def dkwX0_isTree_2 : List UInt8 := [27, 160, 0, 7, 4, 167, 0, 4, 3, 61, 132, 3, 1, 167, 255, 199, 28, 172]
abbrev dktX0_isTree_2 : List UInt8 := dkwX0_isTree_2 ++ []
def dkwX0_isTree_1 : List UInt8 := [42, 180, 1, 65, 162, 0, 18, 42, 180, 0, 84, 21, 4, 46, 54, 4, 132, 5, 1, 167, 255, 235, 21, 4]
abbrev dktX0_isTree_1 : List UInt8 := dkwX0_isTree_1 ++ dktX0_isTree_2
def dkwX0_isTree_0 : List UInt8 := [4, 61, 3, 62, 29, 42, 180, 1, 65, 162, 0, 55, 28, 153, 0, 51, 29, 54, 4, 3, 54, 5, 21, 5]
abbrev dktX0_isTree_0 : List UInt8 := dkwX0_isTree_0 ++ dktX0_isTree_1
theorem dksX0_isTree_0 : cX0_isTree.data.toList.drop 0 = dktX0_isTree_0 := by decide +kernel
theorem dksX0_isTree_1 : cX0_isTree.data.toList.drop 24 = dktX0_isTree_1 := dk_seg dksX0_isTree_0 24 rfl rfl
theorem dksX0_isTree_2 : cX0_isTree.data.toList.drop 48 = dktX0_isTree_2 := dk_seg dksX0_isTree_1 24 rfl rfl
theorem dX0_isTree_0 : decode cX0_isTree 0 = .ok (.iconst 1, 1) := dk_4 (dk_at dksX0_isTree_0 0 rfl rfl)
theorem dX0_isTree_1 : decode cX0_isTree 1 = .ok (.istore_n 2, 1) := dk_61 (dk_at dksX0_isTree_0 1 rfl rfl)
theorem dX0_isTree_2 : decode cX0_isTree 2 = .ok (.iconst 0, 1) := dk_3 (dk_at dksX0_isTree_0 2 rfl rfl)
theorem dX0_isTree_3 : decode cX0_isTree 3 = .ok (.istore_n 3, 1) := dk_62 (dk_at dksX0_isTree_0 3 rfl rfl)
theorem dX0_isTree_4 : decode cX0_isTree 4 = .ok (.iload_n 3, 1) := dk_29 (dk_at dksX0_isTree_0 4 rfl rfl)
theorem dX0_isTree_5 : decode cX0_isTree 5 = .ok (.aload_n 0, 1) := dk_42 (dk_at dksX0_isTree_0 5 rfl rfl)
theorem dX0_isTree_6 : decode cX0_isTree 6 = .ok (.getfield 321, 3) := dk_180 1 65 (dk_at dksX0_isTree_0 6 rfl rfl)
theorem dX0_isTree_9 : decode cX0_isTree 9 = .ok (.if_icmp .ge 55, 3) := dk_162 0 55 (dk_at dksX0_isTree_0 9 rfl rfl)
theorem dX0_isTree_12 : decode cX0_isTree 12 = .ok (.iload_n 2, 1) := dk_28 (dk_at dksX0_isTree_0 12 rfl rfl)
theorem dX0_isTree_13 : decode cX0_isTree 13 = .ok (.ifCond .eq 51, 3) := dk_153 0 51 (dk_at dksX0_isTree_0 13 rfl rfl)
theorem dX0_isTree_16 : decode cX0_isTree 16 = .ok (.iload_n 3, 1) := dk_29 (dk_at dksX0_isTree_0 16 rfl rfl)
theorem dX0_isTree_17 : decode cX0_isTree 17 = .ok (.istore 4, 2) := dk_54 4 (dk_at dksX0_isTree_0 17 rfl rfl)
theorem dX0_isTree_19 : decode cX0_isTree 19 = .ok (.iconst 0, 1) := dk_3 (dk_at dksX0_isTree_0 19 rfl rfl)
theorem dX0_isTree_20 : decode cX0_isTree 20 = .ok (.istore 5, 2) := dk_54 5 (dk_at dksX0_isTree_0 20 rfl rfl)
theorem dX0_isTree_22 : decode cX0_isTree 22 = .ok (.iload 5, 2) := dk_21 5 (dk_at dksX0_isTree_0 22 rfl rfl)
theorem dX0_isTree_24 : decode cX0_isTree 24 = .ok (.aload_n 0, 1) := dk_42 (dk_at dksX0_isTree_1 0 rfl rfl)
theorem dX0_isTree_25 : decode cX0_isTree 25 = .ok (.getfield 321, 3) := dk_180 1 65 (dk_at dksX0_isTree_1 1 rfl rfl)
theorem dX0_isTree_28 : decode cX0_isTree 28 = .ok (.if_icmp .ge 18, 3) := dk_162 0 18 (dk_at dksX0_isTree_1 4 rfl rfl)
theorem dX0_isTree_31 : decode cX0_isTree 31 = .ok (.aload_n 0, 1) := dk_42 (dk_at dksX0_isTree_1 7 rfl rfl)
theorem dX0_isTree_32 : decode cX0_isTree 32 = .ok (.getfield 84, 3) := dk_180 0 84 (dk_at dksX0_isTree_1 8 rfl rfl)
theorem dX0_isTree_35 : decode cX0_isTree 35 = .ok (.iload 4, 2) := dk_21 4 (dk_at dksX0_isTree_1 11 rfl rfl)
theorem dX0_isTree_37 : decode cX0_isTree 37 = .ok (.iaload, 1) := dk_46 (dk_at dksX0_isTree_1 13 rfl rfl)
theorem dX0_isTree_38 : decode cX0_isTree 38 = .ok (.istore 4, 2) := dk_54 4 (dk_at dksX0_isTree_1 14 rfl rfl)
theorem dX0_isTree_40 : decode cX0_isTree 40 = .ok (.iinc 5 1, 3) := dk_132 5 1 (dk_at dksX0_isTree_1 16 rfl rfl)
theorem dX0_isTree_43 : decode cX0_isTree 43 = .ok (.goto (-21), 3) := dk_167 255 235 (dk_at dksX0_isTree_1 19 rfl rfl)
theorem dX0_isTree_46 : decode cX0_isTree 46 = .ok (.iload 4, 2) := dk_21 4 (dk_at dksX0_isTree_1 22 rfl rfl)
theorem dX0_isTree_48 : decode cX0_isTree 48 = .ok (.iload_n 1, 1) := dk_27 (dk_at dksX0_isTree_2 0 rfl rfl)
theorem dX0_isTree_49 : decode cX0_isTree 49 = .ok (.if_icmp .ne 7, 3) := dk_160 0 7 (dk_at dksX0_isTree_2 1 rfl rfl)
theorem dX0_isTree_52 : decode cX0_isTree 52 = .ok (.iconst 1, 1) := dk_4 (dk_at dksX0_isTree_2 4 rfl rfl)
theorem dX0_isTree_53 : decode cX0_isTree 53 = .ok (.goto 4, 3) := dk_167 0 4 (dk_at dksX0_isTree_2 5 rfl rfl)
theorem dX0_isTree_56 : decode cX0_isTree 56 = .ok (.iconst 0, 1) := dk_3 (dk_at dksX0_isTree_2 8 rfl rfl)
theorem dX0_isTree_57 : decode cX0_isTree 57 = .ok (.istore_n 2, 1) := dk_61 (dk_at dksX0_isTree_2 9 rfl rfl)
theorem dX0_isTree_58 : decode cX0_isTree 58 = .ok (.iinc 3 1, 3) := dk_132 3 1 (dk_at dksX0_isTree_2 10 rfl rfl)
theorem dX0_isTree_61 : decode cX0_isTree 61 = .ok (.goto (-57), 3) := dk_167 255 199 (dk_at dksX0_isTree_2 13 rfl rfl)
theorem dX0_isTree_64 : decode cX0_isTree 64 = .ok (.iload_n 2, 1) := dk_28 (dk_at dksX0_isTree_2 16 rfl rfl)
theorem dX0_isTree_65 : decode cX0_isTree 65 = .ok (.ireturn, 1) := dk_172 (dk_at dksX0_isTree_2 17 rfl rfl)
abbrev cX0_allChanges : ByteArray := prog_1_method_68_code
def yX0_allChanges : MethodName := ⟨RX0, "allChanges", "(I)I"⟩
def dkwX0_allChanges_1 : List UInt8 := [180, 0, 84, 29, 46, 29, 182, 1, 73, 96, 61, 132, 3, 1, 167, 255, 222, 28, 172]
abbrev dktX0_allChanges_1 : List UInt8 := dkwX0_allChanges_1 ++ []
def dkwX0_allChanges_0 : List UInt8 := [3, 61, 3, 62, 29, 42, 180, 1, 65, 162, 0, 32, 28, 29, 27, 160, 0, 7, 3, 167, 0, 14, 42, 42]
abbrev dktX0_allChanges_0 : List UInt8 := dkwX0_allChanges_0 ++ dktX0_allChanges_1
theorem dksX0_allChanges_0 : cX0_allChanges.data.toList.drop 0 = dktX0_allChanges_0 := by decide +kernel
theorem dksX0_allChanges_1 : cX0_allChanges.data.toList.drop 24 = dktX0_allChanges_1 := dk_seg dksX0_allChanges_0 24 rfl rfl
theorem dX0_allChanges_0 : decode cX0_allChanges 0 = .ok (.iconst 0, 1) := dk_3 (dk_at dksX0_allChanges_0 0 rfl rfl)
theorem dX0_allChanges_1 : decode cX0_allChanges 1 = .ok (.istore_n 2, 1) := dk_61 (dk_at dksX0_allChanges_0 1 rfl rfl)
theorem dX0_allChanges_2 : decode cX0_allChanges 2 = .ok (.iconst 0, 1) := dk_3 (dk_at dksX0_allChanges_0 2 rfl rfl)
theorem dX0_allChanges_3 : decode cX0_allChanges 3 = .ok (.istore_n 3, 1) := dk_62 (dk_at dksX0_allChanges_0 3 rfl rfl)
theorem dX0_allChanges_4 : decode cX0_allChanges 4 = .ok (.iload_n 3, 1) := dk_29 (dk_at dksX0_allChanges_0 4 rfl rfl)
theorem dX0_allChanges_5 : decode cX0_allChanges 5 = .ok (.aload_n 0, 1) := dk_42 (dk_at dksX0_allChanges_0 5 rfl rfl)
theorem dX0_allChanges_6 : decode cX0_allChanges 6 = .ok (.getfield 321, 3) := dk_180 1 65 (dk_at dksX0_allChanges_0 6 rfl rfl)
theorem dX0_allChanges_9 : decode cX0_allChanges 9 = .ok (.if_icmp .ge 32, 3) := dk_162 0 32 (dk_at dksX0_allChanges_0 9 rfl rfl)
theorem dX0_allChanges_12 : decode cX0_allChanges 12 = .ok (.iload_n 2, 1) := dk_28 (dk_at dksX0_allChanges_0 12 rfl rfl)
theorem dX0_allChanges_13 : decode cX0_allChanges 13 = .ok (.iload_n 3, 1) := dk_29 (dk_at dksX0_allChanges_0 13 rfl rfl)
theorem dX0_allChanges_14 : decode cX0_allChanges 14 = .ok (.iload_n 1, 1) := dk_27 (dk_at dksX0_allChanges_0 14 rfl rfl)
theorem dX0_allChanges_15 : decode cX0_allChanges 15 = .ok (.if_icmp .ne 7, 3) := dk_160 0 7 (dk_at dksX0_allChanges_0 15 rfl rfl)
theorem dX0_allChanges_18 : decode cX0_allChanges 18 = .ok (.iconst 0, 1) := dk_3 (dk_at dksX0_allChanges_0 18 rfl rfl)
theorem dX0_allChanges_19 : decode cX0_allChanges 19 = .ok (.goto 14, 3) := dk_167 0 14 (dk_at dksX0_allChanges_0 19 rfl rfl)
theorem dX0_allChanges_22 : decode cX0_allChanges 22 = .ok (.aload_n 0, 1) := dk_42 (dk_at dksX0_allChanges_0 22 rfl rfl)
theorem dX0_allChanges_23 : decode cX0_allChanges 23 = .ok (.aload_n 0, 1) := dk_42 (dk_at dksX0_allChanges_0 23 rfl rfl)
theorem dX0_allChanges_24 : decode cX0_allChanges 24 = .ok (.getfield 84, 3) := dk_180 0 84 (dk_at dksX0_allChanges_1 0 rfl rfl)
theorem dX0_allChanges_27 : decode cX0_allChanges 27 = .ok (.iload_n 3, 1) := dk_29 (dk_at dksX0_allChanges_1 3 rfl rfl)
theorem dX0_allChanges_28 : decode cX0_allChanges 28 = .ok (.iaload, 1) := dk_46 (dk_at dksX0_allChanges_1 4 rfl rfl)
theorem dX0_allChanges_29 : decode cX0_allChanges 29 = .ok (.iload_n 3, 1) := dk_29 (dk_at dksX0_allChanges_1 5 rfl rfl)
theorem dX0_allChanges_30 : decode cX0_allChanges 30 = .ok (.invokevirtual 329, 3) := dk_182 1 73 (dk_at dksX0_allChanges_1 6 rfl rfl)
theorem dX0_allChanges_33 : decode cX0_allChanges 33 = .ok (.iadd, 1) := dk_96 (dk_at dksX0_allChanges_1 9 rfl rfl)
theorem dX0_allChanges_34 : decode cX0_allChanges 34 = .ok (.istore_n 2, 1) := dk_61 (dk_at dksX0_allChanges_1 10 rfl rfl)
theorem dX0_allChanges_35 : decode cX0_allChanges 35 = .ok (.iinc 3 1, 3) := dk_132 3 1 (dk_at dksX0_allChanges_1 11 rfl rfl)
theorem dX0_allChanges_38 : decode cX0_allChanges 38 = .ok (.goto (-34), 3) := dk_167 255 222 (dk_at dksX0_allChanges_1 14 rfl rfl)
theorem dX0_allChanges_41 : decode cX0_allChanges 41 = .ok (.iload_n 2, 1) := dk_28 (dk_at dksX0_allChanges_1 17 rfl rfl)
theorem dX0_allChanges_42 : decode cX0_allChanges 42 = .ok (.ireturn, 1) := dk_172 (dk_at dksX0_allChanges_1 18 rfl rfl)
abbrev cX0_changes : ByteArray := prog_1_method_65_code
def yX0_changes : MethodName := ⟨RX0, "changes", "(II)I"⟩
def dkwX0_changes_2 : List UInt8 := [104, 96, 172]
abbrev dktX0_changes_2 : List UInt8 := dkwX0_changes_2 ++ []
def dkwX0_changes_1 : List UInt8 := [180, 1, 71, 54, 4, 29, 21, 4, 2, 130, 126, 184, 0, 240, 5, 21, 4, 29, 2, 130, 126, 184, 0, 240]
abbrev dktX0_changes_1 : List UInt8 := dkwX0_changes_1 ++ dktX0_changes_2
def dkwX0_changes_0 : List UInt8 := [42, 180, 0, 20, 42, 180, 0, 80, 27, 50, 180, 1, 71, 182, 0, 195, 62, 42, 180, 0, 80, 28, 50]
abbrev dktX0_changes_0 : List UInt8 := dkwX0_changes_0 ++ dktX0_changes_1
theorem dksX0_changes_0 : cX0_changes.data.toList.drop 0 = dktX0_changes_0 := by decide +kernel
theorem dksX0_changes_1 : cX0_changes.data.toList.drop 23 = dktX0_changes_1 := dk_seg dksX0_changes_0 23 rfl rfl
theorem dksX0_changes_2 : cX0_changes.data.toList.drop 47 = dktX0_changes_2 := dk_seg dksX0_changes_1 24 rfl rfl
theorem dX0_changes_0 : decode cX0_changes 0 = .ok (.aload_n 0, 1) := dk_42 (dk_at dksX0_changes_0 0 rfl rfl)
theorem dX0_changes_1 : decode cX0_changes 1 = .ok (.getfield 20, 3) := dk_180 0 20 (dk_at dksX0_changes_0 1 rfl rfl)
theorem dX0_changes_4 : decode cX0_changes 4 = .ok (.aload_n 0, 1) := dk_42 (dk_at dksX0_changes_0 4 rfl rfl)
theorem dX0_changes_5 : decode cX0_changes 5 = .ok (.getfield 80, 3) := dk_180 0 80 (dk_at dksX0_changes_0 5 rfl rfl)
theorem dX0_changes_8 : decode cX0_changes 8 = .ok (.iload_n 1, 1) := dk_27 (dk_at dksX0_changes_0 8 rfl rfl)
theorem dX0_changes_9 : decode cX0_changes 9 = .ok (.aaload, 1) := dk_50 (dk_at dksX0_changes_0 9 rfl rfl)
theorem dX0_changes_10 : decode cX0_changes 10 = .ok (.getfield 327, 3) := dk_180 1 71 (dk_at dksX0_changes_0 10 rfl rfl)
theorem dX0_changes_13 : decode cX0_changes 13 = .ok (.invokevirtual 195, 3) := dk_182 0 195 (dk_at dksX0_changes_0 13 rfl rfl)
theorem dX0_changes_16 : decode cX0_changes 16 = .ok (.istore_n 3, 1) := dk_62 (dk_at dksX0_changes_0 16 rfl rfl)
theorem dX0_changes_17 : decode cX0_changes 17 = .ok (.aload_n 0, 1) := dk_42 (dk_at dksX0_changes_0 17 rfl rfl)
theorem dX0_changes_18 : decode cX0_changes 18 = .ok (.getfield 80, 3) := dk_180 0 80 (dk_at dksX0_changes_0 18 rfl rfl)
theorem dX0_changes_21 : decode cX0_changes 21 = .ok (.iload_n 2, 1) := dk_28 (dk_at dksX0_changes_0 21 rfl rfl)
theorem dX0_changes_22 : decode cX0_changes 22 = .ok (.aaload, 1) := dk_50 (dk_at dksX0_changes_0 22 rfl rfl)
theorem dX0_changes_23 : decode cX0_changes 23 = .ok (.getfield 327, 3) := dk_180 1 71 (dk_at dksX0_changes_1 0 rfl rfl)
theorem dX0_changes_26 : decode cX0_changes 26 = .ok (.istore 4, 2) := dk_54 4 (dk_at dksX0_changes_1 3 rfl rfl)
theorem dX0_changes_28 : decode cX0_changes 28 = .ok (.iload_n 3, 1) := dk_29 (dk_at dksX0_changes_1 5 rfl rfl)
theorem dX0_changes_29 : decode cX0_changes 29 = .ok (.iload 4, 2) := dk_21 4 (dk_at dksX0_changes_1 6 rfl rfl)
theorem dX0_changes_31 : decode cX0_changes 31 = .ok (.iconst (-1), 1) := dk_2 (dk_at dksX0_changes_1 8 rfl rfl)
theorem dX0_changes_32 : decode cX0_changes 32 = .ok (.ixor, 1) := dk_130 (dk_at dksX0_changes_1 9 rfl rfl)
theorem dX0_changes_33 : decode cX0_changes 33 = .ok (.iand, 1) := dk_126 (dk_at dksX0_changes_1 10 rfl rfl)
theorem dX0_changes_34 : decode cX0_changes 34 = .ok (.invokestatic 240, 3) := dk_184 0 240 (dk_at dksX0_changes_1 11 rfl rfl)
theorem dX0_changes_37 : decode cX0_changes 37 = .ok (.iconst 2, 1) := dk_5 (dk_at dksX0_changes_1 14 rfl rfl)
theorem dX0_changes_38 : decode cX0_changes 38 = .ok (.iload 4, 2) := dk_21 4 (dk_at dksX0_changes_1 15 rfl rfl)
theorem dX0_changes_40 : decode cX0_changes 40 = .ok (.iload_n 3, 1) := dk_29 (dk_at dksX0_changes_1 17 rfl rfl)
theorem dX0_changes_41 : decode cX0_changes 41 = .ok (.iconst (-1), 1) := dk_2 (dk_at dksX0_changes_1 18 rfl rfl)
theorem dX0_changes_42 : decode cX0_changes 42 = .ok (.ixor, 1) := dk_130 (dk_at dksX0_changes_1 19 rfl rfl)
theorem dX0_changes_43 : decode cX0_changes 43 = .ok (.iand, 1) := dk_126 (dk_at dksX0_changes_1 20 rfl rfl)
theorem dX0_changes_44 : decode cX0_changes 44 = .ok (.invokestatic 240, 3) := dk_184 0 240 (dk_at dksX0_changes_1 21 rfl rfl)
theorem dX0_changes_47 : decode cX0_changes 47 = .ok (.imul, 1) := dk_104 (dk_at dksX0_changes_2 0 rfl rfl)
theorem dX0_changes_48 : decode cX0_changes 48 = .ok (.iadd, 1) := dk_96 (dk_at dksX0_changes_2 1 rfl rfl)
theorem dX0_changes_49 : decode cX0_changes 49 = .ok (.ireturn, 1) := dk_172 (dk_at dksX0_changes_2 2 rfl rfl)
abbrev cX0_centre : ByteArray := prog_1_method_72_code
def yX0_centre : MethodName := ⟨RX0, "centre", "(II)I"⟩
def dkwX0_centre_3 : List UInt8 := [42, 29, 182, 1, 97, 172]
abbrev dktX0_centre_3 : List UInt8 := dkwX0_centre_3 ++ []
def dkwX0_centre_2 : List UInt8 := [162, 0, 8, 21, 4, 167, 0, 4, 29, 62, 132, 4, 1, 167, 255, 223, 27, 154, 0, 7, 29, 167, 0, 8]
abbrev dktX0_centre_2 : List UInt8 := dkwX0_centre_2 ++ dktX0_centre_3
def dkwX0_centre_1 : List UInt8 := [62, 4, 54, 4, 21, 4, 42, 180, 1, 65, 162, 0, 30, 42, 21, 4, 182, 1, 97, 42, 29, 182, 1, 97]
abbrev dktX0_centre_1 : List UInt8 := dkwX0_centre_1 ++ dktX0_centre_2
def dkwX0_centre_0 : List UInt8 := [42, 28, 182, 1, 91, 42, 180, 1, 65, 153, 0, 12, 27, 3, 4, 184, 0, 150, 154, 0, 5, 2, 172, 3]
abbrev dktX0_centre_0 : List UInt8 := dkwX0_centre_0 ++ dktX0_centre_1
theorem dksX0_centre_0 : cX0_centre.data.toList.drop 0 = dktX0_centre_0 := by decide +kernel
theorem dksX0_centre_1 : cX0_centre.data.toList.drop 24 = dktX0_centre_1 := dk_seg dksX0_centre_0 24 rfl rfl
theorem dksX0_centre_2 : cX0_centre.data.toList.drop 48 = dktX0_centre_2 := dk_seg dksX0_centre_1 24 rfl rfl
theorem dksX0_centre_3 : cX0_centre.data.toList.drop 72 = dktX0_centre_3 := dk_seg dksX0_centre_2 24 rfl rfl
theorem dX0_centre_0 : decode cX0_centre 0 = .ok (.aload_n 0, 1) := dk_42 (dk_at dksX0_centre_0 0 rfl rfl)
theorem dX0_centre_1 : decode cX0_centre 1 = .ok (.iload_n 2, 1) := dk_28 (dk_at dksX0_centre_0 1 rfl rfl)
theorem dX0_centre_2 : decode cX0_centre 2 = .ok (.invokevirtual 347, 3) := dk_182 1 91 (dk_at dksX0_centre_0 2 rfl rfl)
theorem dX0_centre_5 : decode cX0_centre 5 = .ok (.aload_n 0, 1) := dk_42 (dk_at dksX0_centre_0 5 rfl rfl)
theorem dX0_centre_6 : decode cX0_centre 6 = .ok (.getfield 321, 3) := dk_180 1 65 (dk_at dksX0_centre_0 6 rfl rfl)
theorem dX0_centre_9 : decode cX0_centre 9 = .ok (.ifCond .eq 12, 3) := dk_153 0 12 (dk_at dksX0_centre_0 9 rfl rfl)
theorem dX0_centre_12 : decode cX0_centre 12 = .ok (.iload_n 1, 1) := dk_27 (dk_at dksX0_centre_0 12 rfl rfl)
theorem dX0_centre_13 : decode cX0_centre 13 = .ok (.iconst 0, 1) := dk_3 (dk_at dksX0_centre_0 13 rfl rfl)
theorem dX0_centre_14 : decode cX0_centre 14 = .ok (.iconst 1, 1) := dk_4 (dk_at dksX0_centre_0 14 rfl rfl)
theorem dX0_centre_15 : decode cX0_centre 15 = .ok (.invokestatic 150, 3) := dk_184 0 150 (dk_at dksX0_centre_0 15 rfl rfl)
theorem dX0_centre_18 : decode cX0_centre 18 = .ok (.ifCond .ne 5, 3) := dk_154 0 5 (dk_at dksX0_centre_0 18 rfl rfl)
theorem dX0_centre_21 : decode cX0_centre 21 = .ok (.iconst (-1), 1) := dk_2 (dk_at dksX0_centre_0 21 rfl rfl)
theorem dX0_centre_22 : decode cX0_centre 22 = .ok (.ireturn, 1) := dk_172 (dk_at dksX0_centre_0 22 rfl rfl)
theorem dX0_centre_23 : decode cX0_centre 23 = .ok (.iconst 0, 1) := dk_3 (dk_at dksX0_centre_0 23 rfl rfl)
theorem dX0_centre_24 : decode cX0_centre 24 = .ok (.istore_n 3, 1) := dk_62 (dk_at dksX0_centre_1 0 rfl rfl)
theorem dX0_centre_25 : decode cX0_centre 25 = .ok (.iconst 1, 1) := dk_4 (dk_at dksX0_centre_1 1 rfl rfl)
theorem dX0_centre_26 : decode cX0_centre 26 = .ok (.istore 4, 2) := dk_54 4 (dk_at dksX0_centre_1 2 rfl rfl)
theorem dX0_centre_28 : decode cX0_centre 28 = .ok (.iload 4, 2) := dk_21 4 (dk_at dksX0_centre_1 4 rfl rfl)
theorem dX0_centre_30 : decode cX0_centre 30 = .ok (.aload_n 0, 1) := dk_42 (dk_at dksX0_centre_1 6 rfl rfl)
theorem dX0_centre_31 : decode cX0_centre 31 = .ok (.getfield 321, 3) := dk_180 1 65 (dk_at dksX0_centre_1 7 rfl rfl)
theorem dX0_centre_34 : decode cX0_centre 34 = .ok (.if_icmp .ge 30, 3) := dk_162 0 30 (dk_at dksX0_centre_1 10 rfl rfl)
theorem dX0_centre_37 : decode cX0_centre 37 = .ok (.aload_n 0, 1) := dk_42 (dk_at dksX0_centre_1 13 rfl rfl)
theorem dX0_centre_38 : decode cX0_centre 38 = .ok (.iload 4, 2) := dk_21 4 (dk_at dksX0_centre_1 14 rfl rfl)
theorem dX0_centre_40 : decode cX0_centre 40 = .ok (.invokevirtual 353, 3) := dk_182 1 97 (dk_at dksX0_centre_1 16 rfl rfl)
theorem dX0_centre_43 : decode cX0_centre 43 = .ok (.aload_n 0, 1) := dk_42 (dk_at dksX0_centre_1 19 rfl rfl)
theorem dX0_centre_44 : decode cX0_centre 44 = .ok (.iload_n 3, 1) := dk_29 (dk_at dksX0_centre_1 20 rfl rfl)
theorem dX0_centre_45 : decode cX0_centre 45 = .ok (.invokevirtual 353, 3) := dk_182 1 97 (dk_at dksX0_centre_1 21 rfl rfl)
theorem dX0_centre_48 : decode cX0_centre 48 = .ok (.if_icmp .ge 8, 3) := dk_162 0 8 (dk_at dksX0_centre_2 0 rfl rfl)
theorem dX0_centre_51 : decode cX0_centre 51 = .ok (.iload 4, 2) := dk_21 4 (dk_at dksX0_centre_2 3 rfl rfl)
theorem dX0_centre_53 : decode cX0_centre 53 = .ok (.goto 4, 3) := dk_167 0 4 (dk_at dksX0_centre_2 5 rfl rfl)
theorem dX0_centre_56 : decode cX0_centre 56 = .ok (.iload_n 3, 1) := dk_29 (dk_at dksX0_centre_2 8 rfl rfl)
theorem dX0_centre_57 : decode cX0_centre 57 = .ok (.istore_n 3, 1) := dk_62 (dk_at dksX0_centre_2 9 rfl rfl)
theorem dX0_centre_58 : decode cX0_centre 58 = .ok (.iinc 4 1, 3) := dk_132 4 1 (dk_at dksX0_centre_2 10 rfl rfl)
theorem dX0_centre_61 : decode cX0_centre 61 = .ok (.goto (-33), 3) := dk_167 255 223 (dk_at dksX0_centre_2 13 rfl rfl)
theorem dX0_centre_64 : decode cX0_centre 64 = .ok (.iload_n 1, 1) := dk_27 (dk_at dksX0_centre_2 16 rfl rfl)
theorem dX0_centre_65 : decode cX0_centre 65 = .ok (.ifCond .ne 7, 3) := dk_154 0 7 (dk_at dksX0_centre_2 17 rfl rfl)
theorem dX0_centre_68 : decode cX0_centre 68 = .ok (.iload_n 3, 1) := dk_29 (dk_at dksX0_centre_2 20 rfl rfl)
theorem dX0_centre_69 : decode cX0_centre 69 = .ok (.goto 8, 3) := dk_167 0 8 (dk_at dksX0_centre_2 21 rfl rfl)
theorem dX0_centre_72 : decode cX0_centre 72 = .ok (.aload_n 0, 1) := dk_42 (dk_at dksX0_centre_3 0 rfl rfl)
theorem dX0_centre_73 : decode cX0_centre 73 = .ok (.iload_n 3, 1) := dk_29 (dk_at dksX0_centre_3 1 rfl rfl)
theorem dX0_centre_74 : decode cX0_centre 74 = .ok (.invokevirtual 353, 3) := dk_182 1 97 (dk_at dksX0_centre_3 2 rfl rfl)
theorem dX0_centre_77 : decode cX0_centre 77 = .ok (.ireturn, 1) := dk_172 (dk_at dksX0_centre_3 5 rfl rfl)
abbrev cX0_changesFrom : ByteArray := prog_1_method_71_code
def yX0_changesFrom : MethodName := ⟨RX0, "changesFrom", "(I)I"⟩
def dkwX0_changesFrom_1 : List UInt8 := [29, 182, 1, 73, 96, 61, 132, 3, 1, 167, 255, 227, 28, 172]
abbrev dktX0_changesFrom_1 : List UInt8 := dkwX0_changesFrom_1 ++ []
def dkwX0_changesFrom_0 : List UInt8 := [3, 61, 3, 62, 29, 42, 180, 1, 65, 162, 0, 27, 28, 27, 29, 160, 0, 7, 3, 167, 0, 9, 42, 27]
abbrev dktX0_changesFrom_0 : List UInt8 := dkwX0_changesFrom_0 ++ dktX0_changesFrom_1
theorem dksX0_changesFrom_0 : cX0_changesFrom.data.toList.drop 0 = dktX0_changesFrom_0 := by decide +kernel
theorem dksX0_changesFrom_1 : cX0_changesFrom.data.toList.drop 24 = dktX0_changesFrom_1 := dk_seg dksX0_changesFrom_0 24 rfl rfl
theorem dX0_changesFrom_0 : decode cX0_changesFrom 0 = .ok (.iconst 0, 1) := dk_3 (dk_at dksX0_changesFrom_0 0 rfl rfl)
theorem dX0_changesFrom_1 : decode cX0_changesFrom 1 = .ok (.istore_n 2, 1) := dk_61 (dk_at dksX0_changesFrom_0 1 rfl rfl)
theorem dX0_changesFrom_2 : decode cX0_changesFrom 2 = .ok (.iconst 0, 1) := dk_3 (dk_at dksX0_changesFrom_0 2 rfl rfl)
theorem dX0_changesFrom_3 : decode cX0_changesFrom 3 = .ok (.istore_n 3, 1) := dk_62 (dk_at dksX0_changesFrom_0 3 rfl rfl)
theorem dX0_changesFrom_4 : decode cX0_changesFrom 4 = .ok (.iload_n 3, 1) := dk_29 (dk_at dksX0_changesFrom_0 4 rfl rfl)
theorem dX0_changesFrom_5 : decode cX0_changesFrom 5 = .ok (.aload_n 0, 1) := dk_42 (dk_at dksX0_changesFrom_0 5 rfl rfl)
theorem dX0_changesFrom_6 : decode cX0_changesFrom 6 = .ok (.getfield 321, 3) := dk_180 1 65 (dk_at dksX0_changesFrom_0 6 rfl rfl)
theorem dX0_changesFrom_9 : decode cX0_changesFrom 9 = .ok (.if_icmp .ge 27, 3) := dk_162 0 27 (dk_at dksX0_changesFrom_0 9 rfl rfl)
theorem dX0_changesFrom_12 : decode cX0_changesFrom 12 = .ok (.iload_n 2, 1) := dk_28 (dk_at dksX0_changesFrom_0 12 rfl rfl)
theorem dX0_changesFrom_13 : decode cX0_changesFrom 13 = .ok (.iload_n 1, 1) := dk_27 (dk_at dksX0_changesFrom_0 13 rfl rfl)
theorem dX0_changesFrom_14 : decode cX0_changesFrom 14 = .ok (.iload_n 3, 1) := dk_29 (dk_at dksX0_changesFrom_0 14 rfl rfl)
theorem dX0_changesFrom_15 : decode cX0_changesFrom 15 = .ok (.if_icmp .ne 7, 3) := dk_160 0 7 (dk_at dksX0_changesFrom_0 15 rfl rfl)
theorem dX0_changesFrom_18 : decode cX0_changesFrom 18 = .ok (.iconst 0, 1) := dk_3 (dk_at dksX0_changesFrom_0 18 rfl rfl)
theorem dX0_changesFrom_19 : decode cX0_changesFrom 19 = .ok (.goto 9, 3) := dk_167 0 9 (dk_at dksX0_changesFrom_0 19 rfl rfl)
theorem dX0_changesFrom_22 : decode cX0_changesFrom 22 = .ok (.aload_n 0, 1) := dk_42 (dk_at dksX0_changesFrom_0 22 rfl rfl)
theorem dX0_changesFrom_23 : decode cX0_changesFrom 23 = .ok (.iload_n 1, 1) := dk_27 (dk_at dksX0_changesFrom_0 23 rfl rfl)
theorem dX0_changesFrom_24 : decode cX0_changesFrom 24 = .ok (.iload_n 3, 1) := dk_29 (dk_at dksX0_changesFrom_1 0 rfl rfl)
theorem dX0_changesFrom_25 : decode cX0_changesFrom 25 = .ok (.invokevirtual 329, 3) := dk_182 1 73 (dk_at dksX0_changesFrom_1 1 rfl rfl)
theorem dX0_changesFrom_28 : decode cX0_changesFrom 28 = .ok (.iadd, 1) := dk_96 (dk_at dksX0_changesFrom_1 4 rfl rfl)
theorem dX0_changesFrom_29 : decode cX0_changesFrom 29 = .ok (.istore_n 2, 1) := dk_61 (dk_at dksX0_changesFrom_1 5 rfl rfl)
theorem dX0_changesFrom_30 : decode cX0_changesFrom 30 = .ok (.iinc 3 1, 3) := dk_132 3 1 (dk_at dksX0_changesFrom_1 6 rfl rfl)
theorem dX0_changesFrom_33 : decode cX0_changesFrom 33 = .ok (.goto (-29), 3) := dk_167 255 227 (dk_at dksX0_changesFrom_1 9 rfl rfl)
theorem dX0_changesFrom_36 : decode cX0_changesFrom 36 = .ok (.iload_n 2, 1) := dk_28 (dk_at dksX0_changesFrom_1 12 rfl rfl)
theorem dX0_changesFrom_37 : decode cX0_changesFrom 37 = .ok (.ireturn, 1) := dk_172 (dk_at dksX0_changesFrom_1 13 rfl rfl)
abbrev cX0_clans : ByteArray := prog_1_method_74_code
def yX0_clans : MethodName := ⟨RX0, "clans", "(III)I"⟩
def dkwX0_clans_4 : List UInt8 := [132, 7, 1, 167, 255, 197, 28, 154, 0, 8, 21, 5, 167, 0, 5, 21, 6, 172]
abbrev dktX0_clans_4 : List UInt8 := dkwX0_clans_4 ++ []
def dkwX0_clans_3 : List UInt8 := [54, 8, 21, 4, 21, 8, 128, 54, 4, 132, 5, 1, 21, 6, 21, 8, 184, 0, 240, 184, 1, 103, 54, 6]
abbrev dktX0_clans_3 : List UInt8 := dkwX0_clans_3 ++ dktX0_clans_4
def dkwX0_clans_2 : List UInt8 := [21, 4, 21, 7, 122, 4, 126, 4, 160, 0, 6, 167, 0, 36, 42, 4, 21, 7, 120, 27, 182, 1, 100]
abbrev dktX0_clans_2 : List UInt8 := dkwX0_clans_2 ++ dktX0_clans_3
def dkwX0_clans_1 : List UInt8 := [182, 1, 91, 3, 54, 4, 3, 54, 5, 3, 54, 6, 3, 54, 7, 21, 7, 42, 180, 1, 65, 162, 0, 56]
abbrev dktX0_clans_1 : List UInt8 := dkwX0_clans_1 ++ dktX0_clans_2
def dkwX0_clans_0 : List UInt8 := [27, 3, 16, 24, 184, 0, 150, 153, 0, 12, 28, 3, 4, 184, 0, 150, 154, 0, 5, 2, 172, 42, 29]
abbrev dktX0_clans_0 : List UInt8 := dkwX0_clans_0 ++ dktX0_clans_1
theorem dksX0_clans_0 : cX0_clans.data.toList.drop 0 = dktX0_clans_0 := by decide +kernel
theorem dksX0_clans_1 : cX0_clans.data.toList.drop 23 = dktX0_clans_1 := dk_seg dksX0_clans_0 23 rfl rfl
theorem dksX0_clans_2 : cX0_clans.data.toList.drop 47 = dktX0_clans_2 := dk_seg dksX0_clans_1 24 rfl rfl
theorem dksX0_clans_3 : cX0_clans.data.toList.drop 70 = dktX0_clans_3 := dk_seg dksX0_clans_2 23 rfl rfl
theorem dksX0_clans_4 : cX0_clans.data.toList.drop 94 = dktX0_clans_4 := dk_seg dksX0_clans_3 24 rfl rfl
theorem dX0_clans_0 : decode cX0_clans 0 = .ok (.iload_n 1, 1) := dk_27 (dk_at dksX0_clans_0 0 rfl rfl)
theorem dX0_clans_1 : decode cX0_clans 1 = .ok (.iconst 0, 1) := dk_3 (dk_at dksX0_clans_0 1 rfl rfl)
theorem dX0_clans_2 : decode cX0_clans 2 = .ok (.bipush 24, 2) := dk_16 24 (dk_at dksX0_clans_0 2 rfl rfl)
theorem dX0_clans_4 : decode cX0_clans 4 = .ok (.invokestatic 150, 3) := dk_184 0 150 (dk_at dksX0_clans_0 4 rfl rfl)
theorem dX0_clans_7 : decode cX0_clans 7 = .ok (.ifCond .eq 12, 3) := dk_153 0 12 (dk_at dksX0_clans_0 7 rfl rfl)
theorem dX0_clans_10 : decode cX0_clans 10 = .ok (.iload_n 2, 1) := dk_28 (dk_at dksX0_clans_0 10 rfl rfl)
theorem dX0_clans_11 : decode cX0_clans 11 = .ok (.iconst 0, 1) := dk_3 (dk_at dksX0_clans_0 11 rfl rfl)
theorem dX0_clans_12 : decode cX0_clans 12 = .ok (.iconst 1, 1) := dk_4 (dk_at dksX0_clans_0 12 rfl rfl)
theorem dX0_clans_13 : decode cX0_clans 13 = .ok (.invokestatic 150, 3) := dk_184 0 150 (dk_at dksX0_clans_0 13 rfl rfl)
theorem dX0_clans_16 : decode cX0_clans 16 = .ok (.ifCond .ne 5, 3) := dk_154 0 5 (dk_at dksX0_clans_0 16 rfl rfl)
theorem dX0_clans_19 : decode cX0_clans 19 = .ok (.iconst (-1), 1) := dk_2 (dk_at dksX0_clans_0 19 rfl rfl)
theorem dX0_clans_20 : decode cX0_clans 20 = .ok (.ireturn, 1) := dk_172 (dk_at dksX0_clans_0 20 rfl rfl)
theorem dX0_clans_21 : decode cX0_clans 21 = .ok (.aload_n 0, 1) := dk_42 (dk_at dksX0_clans_0 21 rfl rfl)
theorem dX0_clans_22 : decode cX0_clans 22 = .ok (.iload_n 3, 1) := dk_29 (dk_at dksX0_clans_0 22 rfl rfl)
theorem dX0_clans_23 : decode cX0_clans 23 = .ok (.invokevirtual 347, 3) := dk_182 1 91 (dk_at dksX0_clans_1 0 rfl rfl)
theorem dX0_clans_26 : decode cX0_clans 26 = .ok (.iconst 0, 1) := dk_3 (dk_at dksX0_clans_1 3 rfl rfl)
theorem dX0_clans_27 : decode cX0_clans 27 = .ok (.istore 4, 2) := dk_54 4 (dk_at dksX0_clans_1 4 rfl rfl)
theorem dX0_clans_29 : decode cX0_clans 29 = .ok (.iconst 0, 1) := dk_3 (dk_at dksX0_clans_1 6 rfl rfl)
theorem dX0_clans_30 : decode cX0_clans 30 = .ok (.istore 5, 2) := dk_54 5 (dk_at dksX0_clans_1 7 rfl rfl)
theorem dX0_clans_32 : decode cX0_clans 32 = .ok (.iconst 0, 1) := dk_3 (dk_at dksX0_clans_1 9 rfl rfl)
theorem dX0_clans_33 : decode cX0_clans 33 = .ok (.istore 6, 2) := dk_54 6 (dk_at dksX0_clans_1 10 rfl rfl)
theorem dX0_clans_35 : decode cX0_clans 35 = .ok (.iconst 0, 1) := dk_3 (dk_at dksX0_clans_1 12 rfl rfl)
theorem dX0_clans_36 : decode cX0_clans 36 = .ok (.istore 7, 2) := dk_54 7 (dk_at dksX0_clans_1 13 rfl rfl)
theorem dX0_clans_38 : decode cX0_clans 38 = .ok (.iload 7, 2) := dk_21 7 (dk_at dksX0_clans_1 15 rfl rfl)
theorem dX0_clans_40 : decode cX0_clans 40 = .ok (.aload_n 0, 1) := dk_42 (dk_at dksX0_clans_1 17 rfl rfl)
theorem dX0_clans_41 : decode cX0_clans 41 = .ok (.getfield 321, 3) := dk_180 1 65 (dk_at dksX0_clans_1 18 rfl rfl)
theorem dX0_clans_44 : decode cX0_clans 44 = .ok (.if_icmp .ge 56, 3) := dk_162 0 56 (dk_at dksX0_clans_1 21 rfl rfl)
theorem dX0_clans_47 : decode cX0_clans 47 = .ok (.iload 4, 2) := dk_21 4 (dk_at dksX0_clans_2 0 rfl rfl)
theorem dX0_clans_49 : decode cX0_clans 49 = .ok (.iload 7, 2) := dk_21 7 (dk_at dksX0_clans_2 2 rfl rfl)
theorem dX0_clans_51 : decode cX0_clans 51 = .ok (.ishr, 1) := dk_122 (dk_at dksX0_clans_2 4 rfl rfl)
theorem dX0_clans_52 : decode cX0_clans 52 = .ok (.iconst 1, 1) := dk_4 (dk_at dksX0_clans_2 5 rfl rfl)
theorem dX0_clans_53 : decode cX0_clans 53 = .ok (.iand, 1) := dk_126 (dk_at dksX0_clans_2 6 rfl rfl)
theorem dX0_clans_54 : decode cX0_clans 54 = .ok (.iconst 1, 1) := dk_4 (dk_at dksX0_clans_2 7 rfl rfl)
theorem dX0_clans_55 : decode cX0_clans 55 = .ok (.if_icmp .ne 6, 3) := dk_160 0 6 (dk_at dksX0_clans_2 8 rfl rfl)
theorem dX0_clans_58 : decode cX0_clans 58 = .ok (.goto 36, 3) := dk_167 0 36 (dk_at dksX0_clans_2 11 rfl rfl)
theorem dX0_clans_61 : decode cX0_clans 61 = .ok (.aload_n 0, 1) := dk_42 (dk_at dksX0_clans_2 14 rfl rfl)
theorem dX0_clans_62 : decode cX0_clans 62 = .ok (.iconst 1, 1) := dk_4 (dk_at dksX0_clans_2 15 rfl rfl)
theorem dX0_clans_63 : decode cX0_clans 63 = .ok (.iload 7, 2) := dk_21 7 (dk_at dksX0_clans_2 16 rfl rfl)
theorem dX0_clans_65 : decode cX0_clans 65 = .ok (.ishl, 1) := dk_120 (dk_at dksX0_clans_2 18 rfl rfl)
theorem dX0_clans_66 : decode cX0_clans 66 = .ok (.iload_n 1, 1) := dk_27 (dk_at dksX0_clans_2 19 rfl rfl)
theorem dX0_clans_67 : decode cX0_clans 67 = .ok (.invokevirtual 356, 3) := dk_182 1 100 (dk_at dksX0_clans_2 20 rfl rfl)
theorem dX0_clans_70 : decode cX0_clans 70 = .ok (.istore 8, 2) := dk_54 8 (dk_at dksX0_clans_3 0 rfl rfl)
theorem dX0_clans_72 : decode cX0_clans 72 = .ok (.iload 4, 2) := dk_21 4 (dk_at dksX0_clans_3 2 rfl rfl)
theorem dX0_clans_74 : decode cX0_clans 74 = .ok (.iload 8, 2) := dk_21 8 (dk_at dksX0_clans_3 4 rfl rfl)
theorem dX0_clans_76 : decode cX0_clans 76 = .ok (.ior, 1) := dk_128 (dk_at dksX0_clans_3 6 rfl rfl)
theorem dX0_clans_77 : decode cX0_clans 77 = .ok (.istore 4, 2) := dk_54 4 (dk_at dksX0_clans_3 7 rfl rfl)
theorem dX0_clans_79 : decode cX0_clans 79 = .ok (.iinc 5 1, 3) := dk_132 5 1 (dk_at dksX0_clans_3 9 rfl rfl)
theorem dX0_clans_82 : decode cX0_clans 82 = .ok (.iload 6, 2) := dk_21 6 (dk_at dksX0_clans_3 12 rfl rfl)
theorem dX0_clans_84 : decode cX0_clans 84 = .ok (.iload 8, 2) := dk_21 8 (dk_at dksX0_clans_3 14 rfl rfl)
theorem dX0_clans_86 : decode cX0_clans 86 = .ok (.invokestatic 240, 3) := dk_184 0 240 (dk_at dksX0_clans_3 16 rfl rfl)
theorem dX0_clans_89 : decode cX0_clans 89 = .ok (.invokestatic 359, 3) := dk_184 1 103 (dk_at dksX0_clans_3 19 rfl rfl)
theorem dX0_clans_92 : decode cX0_clans 92 = .ok (.istore 6, 2) := dk_54 6 (dk_at dksX0_clans_3 22 rfl rfl)
theorem dX0_clans_94 : decode cX0_clans 94 = .ok (.iinc 7 1, 3) := dk_132 7 1 (dk_at dksX0_clans_4 0 rfl rfl)
theorem dX0_clans_97 : decode cX0_clans 97 = .ok (.goto (-59), 3) := dk_167 255 197 (dk_at dksX0_clans_4 3 rfl rfl)
theorem dX0_clans_100 : decode cX0_clans 100 = .ok (.iload_n 2, 1) := dk_28 (dk_at dksX0_clans_4 6 rfl rfl)
theorem dX0_clans_101 : decode cX0_clans 101 = .ok (.ifCond .ne 8, 3) := dk_154 0 8 (dk_at dksX0_clans_4 7 rfl rfl)
theorem dX0_clans_104 : decode cX0_clans 104 = .ok (.iload 5, 2) := dk_21 5 (dk_at dksX0_clans_4 10 rfl rfl)
theorem dX0_clans_106 : decode cX0_clans 106 = .ok (.goto 5, 3) := dk_167 0 5 (dk_at dksX0_clans_4 12 rfl rfl)
theorem dX0_clans_109 : decode cX0_clans 109 = .ok (.iload 6, 2) := dk_21 6 (dk_at dksX0_clans_4 15 rfl rfl)
theorem dX0_clans_111 : decode cX0_clans 111 = .ok (.ireturn, 1) := dk_172 (dk_at dksX0_clans_4 17 rfl rfl)
abbrev cX0_clan : ByteArray := prog_1_method_73_code
def yX0_clan : MethodName := ⟨RX0, "clan", "(II)I"⟩
def dkwX0_clan_4 : List UInt8 := [132, 4, 1, 167, 255, 168, 29, 172]
abbrev dktX0_clan_4 : List UInt8 := dkwX0_clan_4 ++ []
def dkwX0_clan_3 : List UInt8 := [163, 0, 10, 29, 4, 21, 6, 120, 128, 62, 132, 6, 1, 167, 255, 204, 132, 5, 1, 167, 255, 186]
abbrev dktX0_clan_3 : List UInt8 := dkwX0_clan_3 ++ dktX0_clan_4
def dkwX0_clan_2 : List UInt8 := [160, 0, 33, 42, 21, 5, 21, 6, 182, 1, 73, 42, 21, 6, 21, 5, 182, 1, 73, 184, 1, 14, 28]
abbrev dktX0_clan_2 : List UInt8 := dkwX0_clan_2 ++ dktX0_clan_3
def dkwX0_clan_1 : List UInt8 := [162, 0, 67, 3, 54, 6, 21, 6, 42, 180, 1, 65, 162, 0, 49, 29, 21, 5, 122, 4, 126, 4]
abbrev dktX0_clan_1 : List UInt8 := dkwX0_clan_1 ++ dktX0_clan_2
def dkwX0_clan_0 : List UInt8 := [27, 62, 3, 54, 4, 21, 4, 42, 180, 1, 65, 162, 0, 85, 3, 54, 5, 21, 5, 42, 180, 1, 65]
abbrev dktX0_clan_0 : List UInt8 := dkwX0_clan_0 ++ dktX0_clan_1
theorem dksX0_clan_0 : cX0_clan.data.toList.drop 0 = dktX0_clan_0 := by decide +kernel
theorem dksX0_clan_1 : cX0_clan.data.toList.drop 23 = dktX0_clan_1 := dk_seg dksX0_clan_0 23 rfl rfl
theorem dksX0_clan_2 : cX0_clan.data.toList.drop 45 = dktX0_clan_2 := dk_seg dksX0_clan_1 22 rfl rfl
theorem dksX0_clan_3 : cX0_clan.data.toList.drop 68 = dktX0_clan_3 := dk_seg dksX0_clan_2 23 rfl rfl
theorem dksX0_clan_4 : cX0_clan.data.toList.drop 90 = dktX0_clan_4 := dk_seg dksX0_clan_3 22 rfl rfl
theorem dX0_clan_0 : decode cX0_clan 0 = .ok (.iload_n 1, 1) := dk_27 (dk_at dksX0_clan_0 0 rfl rfl)
theorem dX0_clan_1 : decode cX0_clan 1 = .ok (.istore_n 3, 1) := dk_62 (dk_at dksX0_clan_0 1 rfl rfl)
theorem dX0_clan_2 : decode cX0_clan 2 = .ok (.iconst 0, 1) := dk_3 (dk_at dksX0_clan_0 2 rfl rfl)
theorem dX0_clan_3 : decode cX0_clan 3 = .ok (.istore 4, 2) := dk_54 4 (dk_at dksX0_clan_0 3 rfl rfl)
theorem dX0_clan_5 : decode cX0_clan 5 = .ok (.iload 4, 2) := dk_21 4 (dk_at dksX0_clan_0 5 rfl rfl)
theorem dX0_clan_7 : decode cX0_clan 7 = .ok (.aload_n 0, 1) := dk_42 (dk_at dksX0_clan_0 7 rfl rfl)
theorem dX0_clan_8 : decode cX0_clan 8 = .ok (.getfield 321, 3) := dk_180 1 65 (dk_at dksX0_clan_0 8 rfl rfl)
theorem dX0_clan_11 : decode cX0_clan 11 = .ok (.if_icmp .ge 85, 3) := dk_162 0 85 (dk_at dksX0_clan_0 11 rfl rfl)
theorem dX0_clan_14 : decode cX0_clan 14 = .ok (.iconst 0, 1) := dk_3 (dk_at dksX0_clan_0 14 rfl rfl)
theorem dX0_clan_15 : decode cX0_clan 15 = .ok (.istore 5, 2) := dk_54 5 (dk_at dksX0_clan_0 15 rfl rfl)
theorem dX0_clan_17 : decode cX0_clan 17 = .ok (.iload 5, 2) := dk_21 5 (dk_at dksX0_clan_0 17 rfl rfl)
theorem dX0_clan_19 : decode cX0_clan 19 = .ok (.aload_n 0, 1) := dk_42 (dk_at dksX0_clan_0 19 rfl rfl)
theorem dX0_clan_20 : decode cX0_clan 20 = .ok (.getfield 321, 3) := dk_180 1 65 (dk_at dksX0_clan_0 20 rfl rfl)
theorem dX0_clan_23 : decode cX0_clan 23 = .ok (.if_icmp .ge 67, 3) := dk_162 0 67 (dk_at dksX0_clan_1 0 rfl rfl)
theorem dX0_clan_26 : decode cX0_clan 26 = .ok (.iconst 0, 1) := dk_3 (dk_at dksX0_clan_1 3 rfl rfl)
theorem dX0_clan_27 : decode cX0_clan 27 = .ok (.istore 6, 2) := dk_54 6 (dk_at dksX0_clan_1 4 rfl rfl)
theorem dX0_clan_29 : decode cX0_clan 29 = .ok (.iload 6, 2) := dk_21 6 (dk_at dksX0_clan_1 6 rfl rfl)
theorem dX0_clan_31 : decode cX0_clan 31 = .ok (.aload_n 0, 1) := dk_42 (dk_at dksX0_clan_1 8 rfl rfl)
theorem dX0_clan_32 : decode cX0_clan 32 = .ok (.getfield 321, 3) := dk_180 1 65 (dk_at dksX0_clan_1 9 rfl rfl)
theorem dX0_clan_35 : decode cX0_clan 35 = .ok (.if_icmp .ge 49, 3) := dk_162 0 49 (dk_at dksX0_clan_1 12 rfl rfl)
theorem dX0_clan_38 : decode cX0_clan 38 = .ok (.iload_n 3, 1) := dk_29 (dk_at dksX0_clan_1 15 rfl rfl)
theorem dX0_clan_39 : decode cX0_clan 39 = .ok (.iload 5, 2) := dk_21 5 (dk_at dksX0_clan_1 16 rfl rfl)
theorem dX0_clan_41 : decode cX0_clan 41 = .ok (.ishr, 1) := dk_122 (dk_at dksX0_clan_1 18 rfl rfl)
theorem dX0_clan_42 : decode cX0_clan 42 = .ok (.iconst 1, 1) := dk_4 (dk_at dksX0_clan_1 19 rfl rfl)
theorem dX0_clan_43 : decode cX0_clan 43 = .ok (.iand, 1) := dk_126 (dk_at dksX0_clan_1 20 rfl rfl)
theorem dX0_clan_44 : decode cX0_clan 44 = .ok (.iconst 1, 1) := dk_4 (dk_at dksX0_clan_1 21 rfl rfl)
theorem dX0_clan_45 : decode cX0_clan 45 = .ok (.if_icmp .ne 33, 3) := dk_160 0 33 (dk_at dksX0_clan_2 0 rfl rfl)
theorem dX0_clan_48 : decode cX0_clan 48 = .ok (.aload_n 0, 1) := dk_42 (dk_at dksX0_clan_2 3 rfl rfl)
theorem dX0_clan_49 : decode cX0_clan 49 = .ok (.iload 5, 2) := dk_21 5 (dk_at dksX0_clan_2 4 rfl rfl)
theorem dX0_clan_51 : decode cX0_clan 51 = .ok (.iload 6, 2) := dk_21 6 (dk_at dksX0_clan_2 6 rfl rfl)
theorem dX0_clan_53 : decode cX0_clan 53 = .ok (.invokevirtual 329, 3) := dk_182 1 73 (dk_at dksX0_clan_2 8 rfl rfl)
theorem dX0_clan_56 : decode cX0_clan 56 = .ok (.aload_n 0, 1) := dk_42 (dk_at dksX0_clan_2 11 rfl rfl)
theorem dX0_clan_57 : decode cX0_clan 57 = .ok (.iload 6, 2) := dk_21 6 (dk_at dksX0_clan_2 12 rfl rfl)
theorem dX0_clan_59 : decode cX0_clan 59 = .ok (.iload 5, 2) := dk_21 5 (dk_at dksX0_clan_2 14 rfl rfl)
theorem dX0_clan_61 : decode cX0_clan 61 = .ok (.invokevirtual 329, 3) := dk_182 1 73 (dk_at dksX0_clan_2 16 rfl rfl)
theorem dX0_clan_64 : decode cX0_clan 64 = .ok (.invokestatic 270, 3) := dk_184 1 14 (dk_at dksX0_clan_2 19 rfl rfl)
theorem dX0_clan_67 : decode cX0_clan 67 = .ok (.iload_n 2, 1) := dk_28 (dk_at dksX0_clan_2 22 rfl rfl)
theorem dX0_clan_68 : decode cX0_clan 68 = .ok (.if_icmp .gt 10, 3) := dk_163 0 10 (dk_at dksX0_clan_3 0 rfl rfl)
theorem dX0_clan_71 : decode cX0_clan 71 = .ok (.iload_n 3, 1) := dk_29 (dk_at dksX0_clan_3 3 rfl rfl)
theorem dX0_clan_72 : decode cX0_clan 72 = .ok (.iconst 1, 1) := dk_4 (dk_at dksX0_clan_3 4 rfl rfl)
theorem dX0_clan_73 : decode cX0_clan 73 = .ok (.iload 6, 2) := dk_21 6 (dk_at dksX0_clan_3 5 rfl rfl)
theorem dX0_clan_75 : decode cX0_clan 75 = .ok (.ishl, 1) := dk_120 (dk_at dksX0_clan_3 7 rfl rfl)
theorem dX0_clan_76 : decode cX0_clan 76 = .ok (.ior, 1) := dk_128 (dk_at dksX0_clan_3 8 rfl rfl)
theorem dX0_clan_77 : decode cX0_clan 77 = .ok (.istore_n 3, 1) := dk_62 (dk_at dksX0_clan_3 9 rfl rfl)
theorem dX0_clan_78 : decode cX0_clan 78 = .ok (.iinc 6 1, 3) := dk_132 6 1 (dk_at dksX0_clan_3 10 rfl rfl)
theorem dX0_clan_81 : decode cX0_clan 81 = .ok (.goto (-52), 3) := dk_167 255 204 (dk_at dksX0_clan_3 13 rfl rfl)
theorem dX0_clan_84 : decode cX0_clan 84 = .ok (.iinc 5 1, 3) := dk_132 5 1 (dk_at dksX0_clan_3 16 rfl rfl)
theorem dX0_clan_87 : decode cX0_clan 87 = .ok (.goto (-70), 3) := dk_167 255 186 (dk_at dksX0_clan_3 19 rfl rfl)
theorem dX0_clan_90 : decode cX0_clan 90 = .ok (.iinc 4 1, 3) := dk_132 4 1 (dk_at dksX0_clan_4 0 rfl rfl)
theorem dX0_clan_93 : decode cX0_clan 93 = .ok (.goto (-88), 3) := dk_167 255 168 (dk_at dksX0_clan_4 3 rfl rfl)
theorem dX0_clan_96 : decode cX0_clan 96 = .ok (.iload_n 3, 1) := dk_29 (dk_at dksX0_clan_4 6 rfl rfl)
theorem dX0_clan_97 : decode cX0_clan 97 = .ok (.ireturn, 1) := dk_172 (dk_at dksX0_clan_4 7 rfl rfl)
abbrev cX0_origin : ByteArray := prog_1_method_75_code
def yX0_origin : MethodName := ⟨RX0, "origin", "(II)I"⟩
def dkwX0_origin_9 : List UInt8 := [154, 0, 7, 29, 167, 0, 5, 21, 4, 172]
abbrev dktX0_origin_9 : List UInt8 := dkwX0_origin_9 ++ []
def dkwX0_origin_8 : List UInt8 := [128, 62, 21, 4, 21, 7, 5, 21, 6, 104, 184, 1, 14, 96, 54, 4, 132, 5, 1, 167, 255, 73, 27]
abbrev dktX0_origin_8 : List UInt8 := dkwX0_origin_8 ++ dktX0_origin_9
def dkwX0_origin_7 : List UInt8 := [132, 8, 1, 167, 255, 134, 29, 21, 7, 5, 21, 6, 104, 162, 0, 10, 4, 21, 5, 120, 167, 0, 4, 3]
abbrev dktX0_origin_7 : List UInt8 := dkwX0_origin_7 ++ dktX0_origin_8
def dkwX0_origin_6 : List UInt8 := [21, 10, 21, 5, 122, 4, 126, 96, 54, 6, 21, 7, 4, 21, 10, 21, 5, 122, 4, 126, 100, 96, 54, 7]
abbrev dktX0_origin_6 : List UInt8 := dkwX0_origin_6 ++ dktX0_origin_7
def dkwX0_origin_5 : List UInt8 := [180, 0, 20, 25, 9, 180, 1, 71, 182, 0, 195, 167, 0, 8, 25, 9, 180, 1, 71, 54, 10, 21, 6]
abbrev dktX0_origin_5 : List UInt8 := dkwX0_origin_5 ++ dktX0_origin_6
def dkwX0_origin_4 : List UInt8 := [180, 0, 74, 21, 8, 182, 1, 55, 192, 0, 78, 58, 9, 25, 9, 180, 1, 106, 153, 0, 18, 42]
abbrev dktX0_origin_4 : List UInt8 := dkwX0_origin_4 ++ dktX0_origin_5
def dkwX0_origin_3 : List UInt8 := [153, 0, 91, 42, 180, 0, 74, 21, 8, 182, 1, 55, 193, 0, 78, 154, 0, 6, 167, 0, 73, 42]
abbrev dktX0_origin_3 : List UInt8 := dkwX0_origin_3 ++ dktX0_origin_4
def dkwX0_origin_2 : List UInt8 := [182, 0, 144, 162, 0, 116, 42, 180, 0, 74, 21, 8, 182, 1, 55, 192, 1, 59, 28, 182, 1, 68]
abbrev dktX0_origin_2 : List UInt8 := dkwX0_origin_2 ++ dktX0_origin_3
def dkwX0_origin_1 : List UInt8 := [180, 0, 20, 180, 0, 147, 162, 0, 177, 3, 54, 6, 3, 54, 7, 3, 54, 8, 21, 8, 42, 180, 0, 74]
abbrev dktX0_origin_1 : List UInt8 := dkwX0_origin_1 ++ dktX0_origin_2
def dkwX0_origin_0 : List UInt8 := [27, 3, 4, 184, 0, 150, 154, 0, 5, 2, 172, 3, 62, 3, 54, 4, 3, 54, 5, 21, 5, 42]
abbrev dktX0_origin_0 : List UInt8 := dkwX0_origin_0 ++ dktX0_origin_1
theorem dksX0_origin_0 : cX0_origin.data.toList.drop 0 = dktX0_origin_0 := by decide +kernel
theorem dksX0_origin_1 : cX0_origin.data.toList.drop 22 = dktX0_origin_1 := dk_seg dksX0_origin_0 22 rfl rfl
theorem dksX0_origin_2 : cX0_origin.data.toList.drop 46 = dktX0_origin_2 := dk_seg dksX0_origin_1 24 rfl rfl
theorem dksX0_origin_3 : cX0_origin.data.toList.drop 68 = dktX0_origin_3 := dk_seg dksX0_origin_2 22 rfl rfl
theorem dksX0_origin_4 : cX0_origin.data.toList.drop 90 = dktX0_origin_4 := dk_seg dksX0_origin_3 22 rfl rfl
theorem dksX0_origin_5 : cX0_origin.data.toList.drop 112 = dktX0_origin_5 := dk_seg dksX0_origin_4 22 rfl rfl
theorem dksX0_origin_6 : cX0_origin.data.toList.drop 135 = dktX0_origin_6 := dk_seg dksX0_origin_5 23 rfl rfl
theorem dksX0_origin_7 : cX0_origin.data.toList.drop 159 = dktX0_origin_7 := dk_seg dksX0_origin_6 24 rfl rfl
theorem dksX0_origin_8 : cX0_origin.data.toList.drop 183 = dktX0_origin_8 := dk_seg dksX0_origin_7 24 rfl rfl
theorem dksX0_origin_9 : cX0_origin.data.toList.drop 206 = dktX0_origin_9 := dk_seg dksX0_origin_8 23 rfl rfl
theorem dX0_origin_0 : decode cX0_origin 0 = .ok (.iload_n 1, 1) := dk_27 (dk_at dksX0_origin_0 0 rfl rfl)
theorem dX0_origin_1 : decode cX0_origin 1 = .ok (.iconst 0, 1) := dk_3 (dk_at dksX0_origin_0 1 rfl rfl)
theorem dX0_origin_2 : decode cX0_origin 2 = .ok (.iconst 1, 1) := dk_4 (dk_at dksX0_origin_0 2 rfl rfl)
theorem dX0_origin_3 : decode cX0_origin 3 = .ok (.invokestatic 150, 3) := dk_184 0 150 (dk_at dksX0_origin_0 3 rfl rfl)
theorem dX0_origin_6 : decode cX0_origin 6 = .ok (.ifCond .ne 5, 3) := dk_154 0 5 (dk_at dksX0_origin_0 6 rfl rfl)
theorem dX0_origin_9 : decode cX0_origin 9 = .ok (.iconst (-1), 1) := dk_2 (dk_at dksX0_origin_0 9 rfl rfl)
theorem dX0_origin_10 : decode cX0_origin 10 = .ok (.ireturn, 1) := dk_172 (dk_at dksX0_origin_0 10 rfl rfl)
theorem dX0_origin_11 : decode cX0_origin 11 = .ok (.iconst 0, 1) := dk_3 (dk_at dksX0_origin_0 11 rfl rfl)
theorem dX0_origin_12 : decode cX0_origin 12 = .ok (.istore_n 3, 1) := dk_62 (dk_at dksX0_origin_0 12 rfl rfl)
theorem dX0_origin_13 : decode cX0_origin 13 = .ok (.iconst 0, 1) := dk_3 (dk_at dksX0_origin_0 13 rfl rfl)
theorem dX0_origin_14 : decode cX0_origin 14 = .ok (.istore 4, 2) := dk_54 4 (dk_at dksX0_origin_0 14 rfl rfl)
theorem dX0_origin_16 : decode cX0_origin 16 = .ok (.iconst 0, 1) := dk_3 (dk_at dksX0_origin_0 16 rfl rfl)
theorem dX0_origin_17 : decode cX0_origin 17 = .ok (.istore 5, 2) := dk_54 5 (dk_at dksX0_origin_0 17 rfl rfl)
theorem dX0_origin_19 : decode cX0_origin 19 = .ok (.iload 5, 2) := dk_21 5 (dk_at dksX0_origin_0 19 rfl rfl)
theorem dX0_origin_21 : decode cX0_origin 21 = .ok (.aload_n 0, 1) := dk_42 (dk_at dksX0_origin_0 21 rfl rfl)
theorem dX0_origin_22 : decode cX0_origin 22 = .ok (.getfield 20, 3) := dk_180 0 20 (dk_at dksX0_origin_1 0 rfl rfl)
theorem dX0_origin_25 : decode cX0_origin 25 = .ok (.getfield 147, 3) := dk_180 0 147 (dk_at dksX0_origin_1 3 rfl rfl)
theorem dX0_origin_28 : decode cX0_origin 28 = .ok (.if_icmp .ge 177, 3) := dk_162 0 177 (dk_at dksX0_origin_1 6 rfl rfl)
theorem dX0_origin_31 : decode cX0_origin 31 = .ok (.iconst 0, 1) := dk_3 (dk_at dksX0_origin_1 9 rfl rfl)
theorem dX0_origin_32 : decode cX0_origin 32 = .ok (.istore 6, 2) := dk_54 6 (dk_at dksX0_origin_1 10 rfl rfl)
theorem dX0_origin_34 : decode cX0_origin 34 = .ok (.iconst 0, 1) := dk_3 (dk_at dksX0_origin_1 12 rfl rfl)
theorem dX0_origin_35 : decode cX0_origin 35 = .ok (.istore 7, 2) := dk_54 7 (dk_at dksX0_origin_1 13 rfl rfl)
theorem dX0_origin_37 : decode cX0_origin 37 = .ok (.iconst 0, 1) := dk_3 (dk_at dksX0_origin_1 15 rfl rfl)
theorem dX0_origin_38 : decode cX0_origin 38 = .ok (.istore 8, 2) := dk_54 8 (dk_at dksX0_origin_1 16 rfl rfl)
theorem dX0_origin_40 : decode cX0_origin 40 = .ok (.iload 8, 2) := dk_21 8 (dk_at dksX0_origin_1 18 rfl rfl)
theorem dX0_origin_42 : decode cX0_origin 42 = .ok (.aload_n 0, 1) := dk_42 (dk_at dksX0_origin_1 20 rfl rfl)
theorem dX0_origin_43 : decode cX0_origin 43 = .ok (.getfield 74, 3) := dk_180 0 74 (dk_at dksX0_origin_1 21 rfl rfl)
theorem dX0_origin_46 : decode cX0_origin 46 = .ok (.invokevirtual 144, 3) := dk_182 0 144 (dk_at dksX0_origin_2 0 rfl rfl)
theorem dX0_origin_49 : decode cX0_origin 49 = .ok (.if_icmp .ge 116, 3) := dk_162 0 116 (dk_at dksX0_origin_2 3 rfl rfl)
theorem dX0_origin_52 : decode cX0_origin 52 = .ok (.aload_n 0, 1) := dk_42 (dk_at dksX0_origin_2 6 rfl rfl)
theorem dX0_origin_53 : decode cX0_origin 53 = .ok (.getfield 74, 3) := dk_180 0 74 (dk_at dksX0_origin_2 7 rfl rfl)
theorem dX0_origin_56 : decode cX0_origin 56 = .ok (.iload 8, 2) := dk_21 8 (dk_at dksX0_origin_2 10 rfl rfl)
theorem dX0_origin_58 : decode cX0_origin 58 = .ok (.invokevirtual 311, 3) := dk_182 1 55 (dk_at dksX0_origin_2 12 rfl rfl)
theorem dX0_origin_61 : decode cX0_origin 61 = .ok (.checkcast 315, 3) := dk_192 1 59 (dk_at dksX0_origin_2 15 rfl rfl)
theorem dX0_origin_64 : decode cX0_origin 64 = .ok (.iload_n 2, 1) := dk_28 (dk_at dksX0_origin_2 18 rfl rfl)
theorem dX0_origin_65 : decode cX0_origin 65 = .ok (.invokevirtual 324, 3) := dk_182 1 68 (dk_at dksX0_origin_2 19 rfl rfl)
theorem dX0_origin_68 : decode cX0_origin 68 = .ok (.ifCond .eq 91, 3) := dk_153 0 91 (dk_at dksX0_origin_3 0 rfl rfl)
theorem dX0_origin_71 : decode cX0_origin 71 = .ok (.aload_n 0, 1) := dk_42 (dk_at dksX0_origin_3 3 rfl rfl)
theorem dX0_origin_72 : decode cX0_origin 72 = .ok (.getfield 74, 3) := dk_180 0 74 (dk_at dksX0_origin_3 4 rfl rfl)
theorem dX0_origin_75 : decode cX0_origin 75 = .ok (.iload 8, 2) := dk_21 8 (dk_at dksX0_origin_3 7 rfl rfl)
theorem dX0_origin_77 : decode cX0_origin 77 = .ok (.invokevirtual 311, 3) := dk_182 1 55 (dk_at dksX0_origin_3 9 rfl rfl)
theorem dX0_origin_80 : decode cX0_origin 80 = .ok (.instanceof 78, 3) := dk_193 0 78 (dk_at dksX0_origin_3 12 rfl rfl)
theorem dX0_origin_83 : decode cX0_origin 83 = .ok (.ifCond .ne 6, 3) := dk_154 0 6 (dk_at dksX0_origin_3 15 rfl rfl)
theorem dX0_origin_86 : decode cX0_origin 86 = .ok (.goto 73, 3) := dk_167 0 73 (dk_at dksX0_origin_3 18 rfl rfl)
theorem dX0_origin_89 : decode cX0_origin 89 = .ok (.aload_n 0, 1) := dk_42 (dk_at dksX0_origin_3 21 rfl rfl)
theorem dX0_origin_90 : decode cX0_origin 90 = .ok (.getfield 74, 3) := dk_180 0 74 (dk_at dksX0_origin_4 0 rfl rfl)
theorem dX0_origin_93 : decode cX0_origin 93 = .ok (.iload 8, 2) := dk_21 8 (dk_at dksX0_origin_4 3 rfl rfl)
theorem dX0_origin_95 : decode cX0_origin 95 = .ok (.invokevirtual 311, 3) := dk_182 1 55 (dk_at dksX0_origin_4 5 rfl rfl)
theorem dX0_origin_98 : decode cX0_origin 98 = .ok (.checkcast 78, 3) := dk_192 0 78 (dk_at dksX0_origin_4 8 rfl rfl)
theorem dX0_origin_101 : decode cX0_origin 101 = .ok (.astore 9, 2) := dk_58 9 (dk_at dksX0_origin_4 11 rfl rfl)
theorem dX0_origin_103 : decode cX0_origin 103 = .ok (.aload 9, 2) := dk_25 9 (dk_at dksX0_origin_4 13 rfl rfl)
theorem dX0_origin_105 : decode cX0_origin 105 = .ok (.getfield 362, 3) := dk_180 1 106 (dk_at dksX0_origin_4 15 rfl rfl)
theorem dX0_origin_108 : decode cX0_origin 108 = .ok (.ifCond .eq 18, 3) := dk_153 0 18 (dk_at dksX0_origin_4 18 rfl rfl)
theorem dX0_origin_111 : decode cX0_origin 111 = .ok (.aload_n 0, 1) := dk_42 (dk_at dksX0_origin_4 21 rfl rfl)
theorem dX0_origin_112 : decode cX0_origin 112 = .ok (.getfield 20, 3) := dk_180 0 20 (dk_at dksX0_origin_5 0 rfl rfl)
theorem dX0_origin_115 : decode cX0_origin 115 = .ok (.aload 9, 2) := dk_25 9 (dk_at dksX0_origin_5 3 rfl rfl)
theorem dX0_origin_117 : decode cX0_origin 117 = .ok (.getfield 327, 3) := dk_180 1 71 (dk_at dksX0_origin_5 5 rfl rfl)
theorem dX0_origin_120 : decode cX0_origin 120 = .ok (.invokevirtual 195, 3) := dk_182 0 195 (dk_at dksX0_origin_5 8 rfl rfl)
theorem dX0_origin_123 : decode cX0_origin 123 = .ok (.goto 8, 3) := dk_167 0 8 (dk_at dksX0_origin_5 11 rfl rfl)
theorem dX0_origin_126 : decode cX0_origin 126 = .ok (.aload 9, 2) := dk_25 9 (dk_at dksX0_origin_5 14 rfl rfl)
theorem dX0_origin_128 : decode cX0_origin 128 = .ok (.getfield 327, 3) := dk_180 1 71 (dk_at dksX0_origin_5 16 rfl rfl)
theorem dX0_origin_131 : decode cX0_origin 131 = .ok (.istore 10, 2) := dk_54 10 (dk_at dksX0_origin_5 19 rfl rfl)
theorem dX0_origin_133 : decode cX0_origin 133 = .ok (.iload 6, 2) := dk_21 6 (dk_at dksX0_origin_5 21 rfl rfl)
theorem dX0_origin_135 : decode cX0_origin 135 = .ok (.iload 10, 2) := dk_21 10 (dk_at dksX0_origin_6 0 rfl rfl)
theorem dX0_origin_137 : decode cX0_origin 137 = .ok (.iload 5, 2) := dk_21 5 (dk_at dksX0_origin_6 2 rfl rfl)
theorem dX0_origin_139 : decode cX0_origin 139 = .ok (.ishr, 1) := dk_122 (dk_at dksX0_origin_6 4 rfl rfl)
theorem dX0_origin_140 : decode cX0_origin 140 = .ok (.iconst 1, 1) := dk_4 (dk_at dksX0_origin_6 5 rfl rfl)
theorem dX0_origin_141 : decode cX0_origin 141 = .ok (.iand, 1) := dk_126 (dk_at dksX0_origin_6 6 rfl rfl)
theorem dX0_origin_142 : decode cX0_origin 142 = .ok (.iadd, 1) := dk_96 (dk_at dksX0_origin_6 7 rfl rfl)
theorem dX0_origin_143 : decode cX0_origin 143 = .ok (.istore 6, 2) := dk_54 6 (dk_at dksX0_origin_6 8 rfl rfl)
theorem dX0_origin_145 : decode cX0_origin 145 = .ok (.iload 7, 2) := dk_21 7 (dk_at dksX0_origin_6 10 rfl rfl)
theorem dX0_origin_147 : decode cX0_origin 147 = .ok (.iconst 1, 1) := dk_4 (dk_at dksX0_origin_6 12 rfl rfl)
theorem dX0_origin_148 : decode cX0_origin 148 = .ok (.iload 10, 2) := dk_21 10 (dk_at dksX0_origin_6 13 rfl rfl)
theorem dX0_origin_150 : decode cX0_origin 150 = .ok (.iload 5, 2) := dk_21 5 (dk_at dksX0_origin_6 15 rfl rfl)
theorem dX0_origin_152 : decode cX0_origin 152 = .ok (.ishr, 1) := dk_122 (dk_at dksX0_origin_6 17 rfl rfl)
theorem dX0_origin_153 : decode cX0_origin 153 = .ok (.iconst 1, 1) := dk_4 (dk_at dksX0_origin_6 18 rfl rfl)
theorem dX0_origin_154 : decode cX0_origin 154 = .ok (.iand, 1) := dk_126 (dk_at dksX0_origin_6 19 rfl rfl)
theorem dX0_origin_155 : decode cX0_origin 155 = .ok (.isub, 1) := dk_100 (dk_at dksX0_origin_6 20 rfl rfl)
theorem dX0_origin_156 : decode cX0_origin 156 = .ok (.iadd, 1) := dk_96 (dk_at dksX0_origin_6 21 rfl rfl)
theorem dX0_origin_157 : decode cX0_origin 157 = .ok (.istore 7, 2) := dk_54 7 (dk_at dksX0_origin_6 22 rfl rfl)
theorem dX0_origin_159 : decode cX0_origin 159 = .ok (.iinc 8 1, 3) := dk_132 8 1 (dk_at dksX0_origin_7 0 rfl rfl)
theorem dX0_origin_162 : decode cX0_origin 162 = .ok (.goto (-122), 3) := dk_167 255 134 (dk_at dksX0_origin_7 3 rfl rfl)
theorem dX0_origin_165 : decode cX0_origin 165 = .ok (.iload_n 3, 1) := dk_29 (dk_at dksX0_origin_7 6 rfl rfl)
theorem dX0_origin_166 : decode cX0_origin 166 = .ok (.iload 7, 2) := dk_21 7 (dk_at dksX0_origin_7 7 rfl rfl)
theorem dX0_origin_168 : decode cX0_origin 168 = .ok (.iconst 2, 1) := dk_5 (dk_at dksX0_origin_7 9 rfl rfl)
theorem dX0_origin_169 : decode cX0_origin 169 = .ok (.iload 6, 2) := dk_21 6 (dk_at dksX0_origin_7 10 rfl rfl)
theorem dX0_origin_171 : decode cX0_origin 171 = .ok (.imul, 1) := dk_104 (dk_at dksX0_origin_7 12 rfl rfl)
theorem dX0_origin_172 : decode cX0_origin 172 = .ok (.if_icmp .ge 10, 3) := dk_162 0 10 (dk_at dksX0_origin_7 13 rfl rfl)
theorem dX0_origin_175 : decode cX0_origin 175 = .ok (.iconst 1, 1) := dk_4 (dk_at dksX0_origin_7 16 rfl rfl)
theorem dX0_origin_176 : decode cX0_origin 176 = .ok (.iload 5, 2) := dk_21 5 (dk_at dksX0_origin_7 17 rfl rfl)
theorem dX0_origin_178 : decode cX0_origin 178 = .ok (.ishl, 1) := dk_120 (dk_at dksX0_origin_7 19 rfl rfl)
theorem dX0_origin_179 : decode cX0_origin 179 = .ok (.goto 4, 3) := dk_167 0 4 (dk_at dksX0_origin_7 20 rfl rfl)
theorem dX0_origin_182 : decode cX0_origin 182 = .ok (.iconst 0, 1) := dk_3 (dk_at dksX0_origin_7 23 rfl rfl)
theorem dX0_origin_183 : decode cX0_origin 183 = .ok (.ior, 1) := dk_128 (dk_at dksX0_origin_8 0 rfl rfl)
theorem dX0_origin_184 : decode cX0_origin 184 = .ok (.istore_n 3, 1) := dk_62 (dk_at dksX0_origin_8 1 rfl rfl)
theorem dX0_origin_185 : decode cX0_origin 185 = .ok (.iload 4, 2) := dk_21 4 (dk_at dksX0_origin_8 2 rfl rfl)
theorem dX0_origin_187 : decode cX0_origin 187 = .ok (.iload 7, 2) := dk_21 7 (dk_at dksX0_origin_8 4 rfl rfl)
theorem dX0_origin_189 : decode cX0_origin 189 = .ok (.iconst 2, 1) := dk_5 (dk_at dksX0_origin_8 6 rfl rfl)
theorem dX0_origin_190 : decode cX0_origin 190 = .ok (.iload 6, 2) := dk_21 6 (dk_at dksX0_origin_8 7 rfl rfl)
theorem dX0_origin_192 : decode cX0_origin 192 = .ok (.imul, 1) := dk_104 (dk_at dksX0_origin_8 9 rfl rfl)
theorem dX0_origin_193 : decode cX0_origin 193 = .ok (.invokestatic 270, 3) := dk_184 1 14 (dk_at dksX0_origin_8 10 rfl rfl)
theorem dX0_origin_196 : decode cX0_origin 196 = .ok (.iadd, 1) := dk_96 (dk_at dksX0_origin_8 13 rfl rfl)
theorem dX0_origin_197 : decode cX0_origin 197 = .ok (.istore 4, 2) := dk_54 4 (dk_at dksX0_origin_8 14 rfl rfl)
theorem dX0_origin_199 : decode cX0_origin 199 = .ok (.iinc 5 1, 3) := dk_132 5 1 (dk_at dksX0_origin_8 16 rfl rfl)
theorem dX0_origin_202 : decode cX0_origin 202 = .ok (.goto (-183), 3) := dk_167 255 73 (dk_at dksX0_origin_8 19 rfl rfl)
theorem dX0_origin_205 : decode cX0_origin 205 = .ok (.iload_n 1, 1) := dk_27 (dk_at dksX0_origin_8 22 rfl rfl)
theorem dX0_origin_206 : decode cX0_origin 206 = .ok (.ifCond .ne 7, 3) := dk_154 0 7 (dk_at dksX0_origin_9 0 rfl rfl)
theorem dX0_origin_209 : decode cX0_origin 209 = .ok (.iload_n 3, 1) := dk_29 (dk_at dksX0_origin_9 3 rfl rfl)
theorem dX0_origin_210 : decode cX0_origin 210 = .ok (.goto 5, 3) := dk_167 0 5 (dk_at dksX0_origin_9 4 rfl rfl)
theorem dX0_origin_213 : decode cX0_origin 213 = .ok (.iload 4, 2) := dk_21 4 (dk_at dksX0_origin_9 7 rfl rfl)
theorem dX0_origin_215 : decode cX0_origin 215 = .ok (.ireturn, 1) := dk_172 (dk_at dksX0_origin_9 9 rfl rfl)
abbrev cX0_falses : ByteArray := prog_1_method_76_code
def yX0_falses : MethodName := ⟨RX0, "falses", "(I)I"⟩
def dkwX0_falses_4 : List UInt8 := [167, 255, 172, 28, 172]
abbrev dktX0_falses_4 : List UInt8 := dkwX0_falses_4 ++ []
def dkwX0_falses_3 : List UInt8 := [167, 0, 20, 42, 180, 0, 121, 16, 8, 162, 0, 8, 42, 29, 182, 1, 11, 132, 2, 1, 132, 3, 1]
abbrev dktX0_falses_3 : List UInt8 := dkwX0_falses_3 ++ dktX0_falses_4
def dkwX0_falses_2 : List UInt8 := [193, 1, 39, 153, 0, 41, 42, 180, 0, 74, 29, 182, 1, 55, 192, 1, 39, 42, 182, 1, 110, 154, 0, 6]
abbrev dktX0_falses_2 : List UInt8 := dkwX0_falses_2 ++ dktX0_falses_3
def dkwX0_falses_1 : List UInt8 := [29, 182, 1, 55, 192, 1, 59, 27, 182, 1, 68, 153, 0, 55, 42, 180, 0, 74, 29, 182, 1, 55]
abbrev dktX0_falses_1 : List UInt8 := dkwX0_falses_1 ++ dktX0_falses_2
def dkwX0_falses_0 : List UInt8 := [42, 3, 181, 0, 121, 3, 61, 3, 62, 29, 42, 180, 0, 74, 182, 0, 144, 162, 0, 79, 42, 180, 0, 74]
abbrev dktX0_falses_0 : List UInt8 := dkwX0_falses_0 ++ dktX0_falses_1
theorem dksX0_falses_0 : cX0_falses.data.toList.drop 0 = dktX0_falses_0 := by decide +kernel
theorem dksX0_falses_1 : cX0_falses.data.toList.drop 24 = dktX0_falses_1 := dk_seg dksX0_falses_0 24 rfl rfl
theorem dksX0_falses_2 : cX0_falses.data.toList.drop 46 = dktX0_falses_2 := dk_seg dksX0_falses_1 22 rfl rfl
theorem dksX0_falses_3 : cX0_falses.data.toList.drop 70 = dktX0_falses_3 := dk_seg dksX0_falses_2 24 rfl rfl
theorem dksX0_falses_4 : cX0_falses.data.toList.drop 93 = dktX0_falses_4 := dk_seg dksX0_falses_3 23 rfl rfl
theorem dX0_falses_0 : decode cX0_falses 0 = .ok (.aload_n 0, 1) := dk_42 (dk_at dksX0_falses_0 0 rfl rfl)
theorem dX0_falses_1 : decode cX0_falses 1 = .ok (.iconst 0, 1) := dk_3 (dk_at dksX0_falses_0 1 rfl rfl)
theorem dX0_falses_2 : decode cX0_falses 2 = .ok (.putfield 121, 3) := dk_181 0 121 (dk_at dksX0_falses_0 2 rfl rfl)
theorem dX0_falses_5 : decode cX0_falses 5 = .ok (.iconst 0, 1) := dk_3 (dk_at dksX0_falses_0 5 rfl rfl)
theorem dX0_falses_6 : decode cX0_falses 6 = .ok (.istore_n 2, 1) := dk_61 (dk_at dksX0_falses_0 6 rfl rfl)
theorem dX0_falses_7 : decode cX0_falses 7 = .ok (.iconst 0, 1) := dk_3 (dk_at dksX0_falses_0 7 rfl rfl)
theorem dX0_falses_8 : decode cX0_falses 8 = .ok (.istore_n 3, 1) := dk_62 (dk_at dksX0_falses_0 8 rfl rfl)
theorem dX0_falses_9 : decode cX0_falses 9 = .ok (.iload_n 3, 1) := dk_29 (dk_at dksX0_falses_0 9 rfl rfl)
theorem dX0_falses_10 : decode cX0_falses 10 = .ok (.aload_n 0, 1) := dk_42 (dk_at dksX0_falses_0 10 rfl rfl)
theorem dX0_falses_11 : decode cX0_falses 11 = .ok (.getfield 74, 3) := dk_180 0 74 (dk_at dksX0_falses_0 11 rfl rfl)
theorem dX0_falses_14 : decode cX0_falses 14 = .ok (.invokevirtual 144, 3) := dk_182 0 144 (dk_at dksX0_falses_0 14 rfl rfl)
theorem dX0_falses_17 : decode cX0_falses 17 = .ok (.if_icmp .ge 79, 3) := dk_162 0 79 (dk_at dksX0_falses_0 17 rfl rfl)
theorem dX0_falses_20 : decode cX0_falses 20 = .ok (.aload_n 0, 1) := dk_42 (dk_at dksX0_falses_0 20 rfl rfl)
theorem dX0_falses_21 : decode cX0_falses 21 = .ok (.getfield 74, 3) := dk_180 0 74 (dk_at dksX0_falses_0 21 rfl rfl)
theorem dX0_falses_24 : decode cX0_falses 24 = .ok (.iload_n 3, 1) := dk_29 (dk_at dksX0_falses_1 0 rfl rfl)
theorem dX0_falses_25 : decode cX0_falses 25 = .ok (.invokevirtual 311, 3) := dk_182 1 55 (dk_at dksX0_falses_1 1 rfl rfl)
theorem dX0_falses_28 : decode cX0_falses 28 = .ok (.checkcast 315, 3) := dk_192 1 59 (dk_at dksX0_falses_1 4 rfl rfl)
theorem dX0_falses_31 : decode cX0_falses 31 = .ok (.iload_n 1, 1) := dk_27 (dk_at dksX0_falses_1 7 rfl rfl)
theorem dX0_falses_32 : decode cX0_falses 32 = .ok (.invokevirtual 324, 3) := dk_182 1 68 (dk_at dksX0_falses_1 8 rfl rfl)
theorem dX0_falses_35 : decode cX0_falses 35 = .ok (.ifCond .eq 55, 3) := dk_153 0 55 (dk_at dksX0_falses_1 11 rfl rfl)
theorem dX0_falses_38 : decode cX0_falses 38 = .ok (.aload_n 0, 1) := dk_42 (dk_at dksX0_falses_1 14 rfl rfl)
theorem dX0_falses_39 : decode cX0_falses 39 = .ok (.getfield 74, 3) := dk_180 0 74 (dk_at dksX0_falses_1 15 rfl rfl)
theorem dX0_falses_42 : decode cX0_falses 42 = .ok (.iload_n 3, 1) := dk_29 (dk_at dksX0_falses_1 18 rfl rfl)
theorem dX0_falses_43 : decode cX0_falses 43 = .ok (.invokevirtual 311, 3) := dk_182 1 55 (dk_at dksX0_falses_1 19 rfl rfl)
theorem dX0_falses_46 : decode cX0_falses 46 = .ok (.instanceof 295, 3) := dk_193 1 39 (dk_at dksX0_falses_2 0 rfl rfl)
theorem dX0_falses_49 : decode cX0_falses 49 = .ok (.ifCond .eq 41, 3) := dk_153 0 41 (dk_at dksX0_falses_2 3 rfl rfl)
theorem dX0_falses_52 : decode cX0_falses 52 = .ok (.aload_n 0, 1) := dk_42 (dk_at dksX0_falses_2 6 rfl rfl)
theorem dX0_falses_53 : decode cX0_falses 53 = .ok (.getfield 74, 3) := dk_180 0 74 (dk_at dksX0_falses_2 7 rfl rfl)
theorem dX0_falses_56 : decode cX0_falses 56 = .ok (.iload_n 3, 1) := dk_29 (dk_at dksX0_falses_2 10 rfl rfl)
theorem dX0_falses_57 : decode cX0_falses 57 = .ok (.invokevirtual 311, 3) := dk_182 1 55 (dk_at dksX0_falses_2 11 rfl rfl)
theorem dX0_falses_60 : decode cX0_falses 60 = .ok (.checkcast 295, 3) := dk_192 1 39 (dk_at dksX0_falses_2 14 rfl rfl)
theorem dX0_falses_63 : decode cX0_falses 63 = .ok (.aload_n 0, 1) := dk_42 (dk_at dksX0_falses_2 17 rfl rfl)
theorem dX0_falses_64 : decode cX0_falses 64 = .ok (.invokevirtual 366, 3) := dk_182 1 110 (dk_at dksX0_falses_2 18 rfl rfl)
theorem dX0_falses_67 : decode cX0_falses 67 = .ok (.ifCond .ne 6, 3) := dk_154 0 6 (dk_at dksX0_falses_2 21 rfl rfl)
theorem dX0_falses_70 : decode cX0_falses 70 = .ok (.goto 20, 3) := dk_167 0 20 (dk_at dksX0_falses_3 0 rfl rfl)
theorem dX0_falses_73 : decode cX0_falses 73 = .ok (.aload_n 0, 1) := dk_42 (dk_at dksX0_falses_3 3 rfl rfl)
theorem dX0_falses_74 : decode cX0_falses 74 = .ok (.getfield 121, 3) := dk_180 0 121 (dk_at dksX0_falses_3 4 rfl rfl)
theorem dX0_falses_77 : decode cX0_falses 77 = .ok (.bipush 8, 2) := dk_16 8 (dk_at dksX0_falses_3 7 rfl rfl)
theorem dX0_falses_79 : decode cX0_falses 79 = .ok (.if_icmp .ge 8, 3) := dk_162 0 8 (dk_at dksX0_falses_3 9 rfl rfl)
theorem dX0_falses_82 : decode cX0_falses 82 = .ok (.aload_n 0, 1) := dk_42 (dk_at dksX0_falses_3 12 rfl rfl)
theorem dX0_falses_83 : decode cX0_falses 83 = .ok (.iload_n 3, 1) := dk_29 (dk_at dksX0_falses_3 13 rfl rfl)
theorem dX0_falses_84 : decode cX0_falses 84 = .ok (.invokevirtual 267, 3) := dk_182 1 11 (dk_at dksX0_falses_3 14 rfl rfl)
theorem dX0_falses_87 : decode cX0_falses 87 = .ok (.iinc 2 1, 3) := dk_132 2 1 (dk_at dksX0_falses_3 17 rfl rfl)
theorem dX0_falses_90 : decode cX0_falses 90 = .ok (.iinc 3 1, 3) := dk_132 3 1 (dk_at dksX0_falses_3 20 rfl rfl)
theorem dX0_falses_93 : decode cX0_falses 93 = .ok (.goto (-84), 3) := dk_167 255 172 (dk_at dksX0_falses_4 0 rfl rfl)
theorem dX0_falses_96 : decode cX0_falses 96 = .ok (.iload_n 2, 1) := dk_28 (dk_at dksX0_falses_4 3 rfl rfl)
theorem dX0_falses_97 : decode cX0_falses 97 = .ok (.ireturn, 1) := dk_172 (dk_at dksX0_falses_4 4 rfl rfl)
abbrev cX0_span : ByteArray := prog_1_method_77_code
def yX0_span : MethodName := ⟨RX0, "span", "(III)I"⟩
def dkwX0_span_8 : List UInt8 := [167, 0, 5, 21, 5, 172]
abbrev dktX0_span_8 : List UInt8 := dkwX0_span_8 ++ []
def dkwX0_span_7 : List UInt8 := [160, 0, 8, 21, 6, 167, 0, 23, 21, 6, 154, 0, 7, 2, 167, 0, 14, 28, 154, 0, 8, 21, 4]
abbrev dktX0_span_7 : List UInt8 := dkwX0_span_7 ++ dktX0_span_8
def dkwX0_span_6 : List UInt8 := [54, 5, 132, 6, 1, 167, 255, 141, 3, 21, 5, 21, 4, 100, 4, 96, 184, 1, 103, 54, 6, 28, 5]
abbrev dktX0_span_6 : List UInt8 := dkwX0_span_6 ++ dktX0_span_7
def dkwX0_span_5 : List UInt8 := [180, 1, 120, 4, 96, 184, 1, 103, 54, 4, 167, 0, 15, 21, 5, 25, 7, 180, 1, 120, 184, 1, 14]
abbrev dktX0_span_5 : List UInt8 := dkwX0_span_5 ++ dktX0_span_6
def dkwX0_span_4 : List UInt8 := [25, 7, 180, 1, 114, 27, 159, 0, 6, 167, 0, 40, 25, 7, 180, 1, 117, 153, 0, 20, 21, 4, 25, 7]
abbrev dktX0_span_4 : List UInt8 := dkwX0_span_4 ++ dktX0_span_5
def dkwX0_span_3 : List UInt8 := [193, 1, 44, 154, 0, 6, 167, 0, 66, 42, 180, 0, 74, 21, 6, 182, 1, 55, 192, 1, 44, 58, 7]
abbrev dktX0_span_3 : List UInt8 := dkwX0_span_3 ++ dktX0_span_4
def dkwX0_span_2 : List UInt8 := [21, 6, 182, 1, 55, 192, 1, 59, 29, 182, 1, 68, 153, 0, 84, 42, 180, 0, 74, 21, 6, 182, 1, 55]
abbrev dktX0_span_2 : List UInt8 := dkwX0_span_2 ++ dktX0_span_3
def dkwX0_span_1 : List UInt8 := [17, 3, 231, 54, 5, 3, 54, 6, 21, 6, 42, 180, 0, 74, 182, 0, 144, 162, 0, 109, 42, 180, 0, 74]
abbrev dktX0_span_1 : List UInt8 := dkwX0_span_1 ++ dktX0_span_2
def dkwX0_span_0 : List UInt8 := [42, 27, 182, 0, 229, 153, 0, 12, 28, 3, 5, 184, 0, 150, 154, 0, 5, 2, 172, 3, 54, 4]
abbrev dktX0_span_0 : List UInt8 := dkwX0_span_0 ++ dktX0_span_1
theorem dksX0_span_0 : cX0_span.data.toList.drop 0 = dktX0_span_0 := by decide +kernel
theorem dksX0_span_1 : cX0_span.data.toList.drop 22 = dktX0_span_1 := dk_seg dksX0_span_0 22 rfl rfl
theorem dksX0_span_2 : cX0_span.data.toList.drop 46 = dktX0_span_2 := dk_seg dksX0_span_1 24 rfl rfl
theorem dksX0_span_3 : cX0_span.data.toList.drop 70 = dktX0_span_3 := dk_seg dksX0_span_2 24 rfl rfl
theorem dksX0_span_4 : cX0_span.data.toList.drop 93 = dktX0_span_4 := dk_seg dksX0_span_3 23 rfl rfl
theorem dksX0_span_5 : cX0_span.data.toList.drop 117 = dktX0_span_5 := dk_seg dksX0_span_4 24 rfl rfl
theorem dksX0_span_6 : cX0_span.data.toList.drop 140 = dktX0_span_6 := dk_seg dksX0_span_5 23 rfl rfl
theorem dksX0_span_7 : cX0_span.data.toList.drop 163 = dktX0_span_7 := dk_seg dksX0_span_6 23 rfl rfl
theorem dksX0_span_8 : cX0_span.data.toList.drop 186 = dktX0_span_8 := dk_seg dksX0_span_7 23 rfl rfl
theorem dX0_span_0 : decode cX0_span 0 = .ok (.aload_n 0, 1) := dk_42 (dk_at dksX0_span_0 0 rfl rfl)
theorem dX0_span_1 : decode cX0_span 1 = .ok (.iload_n 1, 1) := dk_27 (dk_at dksX0_span_0 1 rfl rfl)
theorem dX0_span_2 : decode cX0_span 2 = .ok (.invokevirtual 229, 3) := dk_182 0 229 (dk_at dksX0_span_0 2 rfl rfl)
theorem dX0_span_5 : decode cX0_span 5 = .ok (.ifCond .eq 12, 3) := dk_153 0 12 (dk_at dksX0_span_0 5 rfl rfl)
theorem dX0_span_8 : decode cX0_span 8 = .ok (.iload_n 2, 1) := dk_28 (dk_at dksX0_span_0 8 rfl rfl)
theorem dX0_span_9 : decode cX0_span 9 = .ok (.iconst 0, 1) := dk_3 (dk_at dksX0_span_0 9 rfl rfl)
theorem dX0_span_10 : decode cX0_span 10 = .ok (.iconst 2, 1) := dk_5 (dk_at dksX0_span_0 10 rfl rfl)
theorem dX0_span_11 : decode cX0_span 11 = .ok (.invokestatic 150, 3) := dk_184 0 150 (dk_at dksX0_span_0 11 rfl rfl)
theorem dX0_span_14 : decode cX0_span 14 = .ok (.ifCond .ne 5, 3) := dk_154 0 5 (dk_at dksX0_span_0 14 rfl rfl)
theorem dX0_span_17 : decode cX0_span 17 = .ok (.iconst (-1), 1) := dk_2 (dk_at dksX0_span_0 17 rfl rfl)
theorem dX0_span_18 : decode cX0_span 18 = .ok (.ireturn, 1) := dk_172 (dk_at dksX0_span_0 18 rfl rfl)
theorem dX0_span_19 : decode cX0_span 19 = .ok (.iconst 0, 1) := dk_3 (dk_at dksX0_span_0 19 rfl rfl)
theorem dX0_span_20 : decode cX0_span 20 = .ok (.istore 4, 2) := dk_54 4 (dk_at dksX0_span_0 20 rfl rfl)
theorem dX0_span_22 : decode cX0_span 22 = .ok (.sipush 999, 3) := dk_17 3 231 (dk_at dksX0_span_1 0 rfl rfl)
theorem dX0_span_25 : decode cX0_span 25 = .ok (.istore 5, 2) := dk_54 5 (dk_at dksX0_span_1 3 rfl rfl)
theorem dX0_span_27 : decode cX0_span 27 = .ok (.iconst 0, 1) := dk_3 (dk_at dksX0_span_1 5 rfl rfl)
theorem dX0_span_28 : decode cX0_span 28 = .ok (.istore 6, 2) := dk_54 6 (dk_at dksX0_span_1 6 rfl rfl)
theorem dX0_span_30 : decode cX0_span 30 = .ok (.iload 6, 2) := dk_21 6 (dk_at dksX0_span_1 8 rfl rfl)
theorem dX0_span_32 : decode cX0_span 32 = .ok (.aload_n 0, 1) := dk_42 (dk_at dksX0_span_1 10 rfl rfl)
theorem dX0_span_33 : decode cX0_span 33 = .ok (.getfield 74, 3) := dk_180 0 74 (dk_at dksX0_span_1 11 rfl rfl)
theorem dX0_span_36 : decode cX0_span 36 = .ok (.invokevirtual 144, 3) := dk_182 0 144 (dk_at dksX0_span_1 14 rfl rfl)
theorem dX0_span_39 : decode cX0_span 39 = .ok (.if_icmp .ge 109, 3) := dk_162 0 109 (dk_at dksX0_span_1 17 rfl rfl)
theorem dX0_span_42 : decode cX0_span 42 = .ok (.aload_n 0, 1) := dk_42 (dk_at dksX0_span_1 20 rfl rfl)
theorem dX0_span_43 : decode cX0_span 43 = .ok (.getfield 74, 3) := dk_180 0 74 (dk_at dksX0_span_1 21 rfl rfl)
theorem dX0_span_46 : decode cX0_span 46 = .ok (.iload 6, 2) := dk_21 6 (dk_at dksX0_span_2 0 rfl rfl)
theorem dX0_span_48 : decode cX0_span 48 = .ok (.invokevirtual 311, 3) := dk_182 1 55 (dk_at dksX0_span_2 2 rfl rfl)
theorem dX0_span_51 : decode cX0_span 51 = .ok (.checkcast 315, 3) := dk_192 1 59 (dk_at dksX0_span_2 5 rfl rfl)
theorem dX0_span_54 : decode cX0_span 54 = .ok (.iload_n 3, 1) := dk_29 (dk_at dksX0_span_2 8 rfl rfl)
theorem dX0_span_55 : decode cX0_span 55 = .ok (.invokevirtual 324, 3) := dk_182 1 68 (dk_at dksX0_span_2 9 rfl rfl)
theorem dX0_span_58 : decode cX0_span 58 = .ok (.ifCond .eq 84, 3) := dk_153 0 84 (dk_at dksX0_span_2 12 rfl rfl)
theorem dX0_span_61 : decode cX0_span 61 = .ok (.aload_n 0, 1) := dk_42 (dk_at dksX0_span_2 15 rfl rfl)
theorem dX0_span_62 : decode cX0_span 62 = .ok (.getfield 74, 3) := dk_180 0 74 (dk_at dksX0_span_2 16 rfl rfl)
theorem dX0_span_65 : decode cX0_span 65 = .ok (.iload 6, 2) := dk_21 6 (dk_at dksX0_span_2 19 rfl rfl)
theorem dX0_span_67 : decode cX0_span 67 = .ok (.invokevirtual 311, 3) := dk_182 1 55 (dk_at dksX0_span_2 21 rfl rfl)
theorem dX0_span_70 : decode cX0_span 70 = .ok (.instanceof 300, 3) := dk_193 1 44 (dk_at dksX0_span_3 0 rfl rfl)
theorem dX0_span_73 : decode cX0_span 73 = .ok (.ifCond .ne 6, 3) := dk_154 0 6 (dk_at dksX0_span_3 3 rfl rfl)
theorem dX0_span_76 : decode cX0_span 76 = .ok (.goto 66, 3) := dk_167 0 66 (dk_at dksX0_span_3 6 rfl rfl)
theorem dX0_span_79 : decode cX0_span 79 = .ok (.aload_n 0, 1) := dk_42 (dk_at dksX0_span_3 9 rfl rfl)
theorem dX0_span_80 : decode cX0_span 80 = .ok (.getfield 74, 3) := dk_180 0 74 (dk_at dksX0_span_3 10 rfl rfl)
theorem dX0_span_83 : decode cX0_span 83 = .ok (.iload 6, 2) := dk_21 6 (dk_at dksX0_span_3 13 rfl rfl)
theorem dX0_span_85 : decode cX0_span 85 = .ok (.invokevirtual 311, 3) := dk_182 1 55 (dk_at dksX0_span_3 15 rfl rfl)
theorem dX0_span_88 : decode cX0_span 88 = .ok (.checkcast 300, 3) := dk_192 1 44 (dk_at dksX0_span_3 18 rfl rfl)
theorem dX0_span_91 : decode cX0_span 91 = .ok (.astore 7, 2) := dk_58 7 (dk_at dksX0_span_3 21 rfl rfl)
theorem dX0_span_93 : decode cX0_span 93 = .ok (.aload 7, 2) := dk_25 7 (dk_at dksX0_span_4 0 rfl rfl)
theorem dX0_span_95 : decode cX0_span 95 = .ok (.getfield 370, 3) := dk_180 1 114 (dk_at dksX0_span_4 2 rfl rfl)
theorem dX0_span_98 : decode cX0_span 98 = .ok (.iload_n 1, 1) := dk_27 (dk_at dksX0_span_4 5 rfl rfl)
theorem dX0_span_99 : decode cX0_span 99 = .ok (.if_icmp .eq 6, 3) := dk_159 0 6 (dk_at dksX0_span_4 6 rfl rfl)
theorem dX0_span_102 : decode cX0_span 102 = .ok (.goto 40, 3) := dk_167 0 40 (dk_at dksX0_span_4 9 rfl rfl)
theorem dX0_span_105 : decode cX0_span 105 = .ok (.aload 7, 2) := dk_25 7 (dk_at dksX0_span_4 12 rfl rfl)
theorem dX0_span_107 : decode cX0_span 107 = .ok (.getfield 373, 3) := dk_180 1 117 (dk_at dksX0_span_4 14 rfl rfl)
theorem dX0_span_110 : decode cX0_span 110 = .ok (.ifCond .eq 20, 3) := dk_153 0 20 (dk_at dksX0_span_4 17 rfl rfl)
theorem dX0_span_113 : decode cX0_span 113 = .ok (.iload 4, 2) := dk_21 4 (dk_at dksX0_span_4 20 rfl rfl)
theorem dX0_span_115 : decode cX0_span 115 = .ok (.aload 7, 2) := dk_25 7 (dk_at dksX0_span_4 22 rfl rfl)
theorem dX0_span_117 : decode cX0_span 117 = .ok (.getfield 376, 3) := dk_180 1 120 (dk_at dksX0_span_5 0 rfl rfl)
theorem dX0_span_120 : decode cX0_span 120 = .ok (.iconst 1, 1) := dk_4 (dk_at dksX0_span_5 3 rfl rfl)
theorem dX0_span_121 : decode cX0_span 121 = .ok (.iadd, 1) := dk_96 (dk_at dksX0_span_5 4 rfl rfl)
theorem dX0_span_122 : decode cX0_span 122 = .ok (.invokestatic 359, 3) := dk_184 1 103 (dk_at dksX0_span_5 5 rfl rfl)
theorem dX0_span_125 : decode cX0_span 125 = .ok (.istore 4, 2) := dk_54 4 (dk_at dksX0_span_5 8 rfl rfl)
theorem dX0_span_127 : decode cX0_span 127 = .ok (.goto 15, 3) := dk_167 0 15 (dk_at dksX0_span_5 10 rfl rfl)
theorem dX0_span_130 : decode cX0_span 130 = .ok (.iload 5, 2) := dk_21 5 (dk_at dksX0_span_5 13 rfl rfl)
theorem dX0_span_132 : decode cX0_span 132 = .ok (.aload 7, 2) := dk_25 7 (dk_at dksX0_span_5 15 rfl rfl)
theorem dX0_span_134 : decode cX0_span 134 = .ok (.getfield 376, 3) := dk_180 1 120 (dk_at dksX0_span_5 17 rfl rfl)
theorem dX0_span_137 : decode cX0_span 137 = .ok (.invokestatic 270, 3) := dk_184 1 14 (dk_at dksX0_span_5 20 rfl rfl)
theorem dX0_span_140 : decode cX0_span 140 = .ok (.istore 5, 2) := dk_54 5 (dk_at dksX0_span_6 0 rfl rfl)
theorem dX0_span_142 : decode cX0_span 142 = .ok (.iinc 6 1, 3) := dk_132 6 1 (dk_at dksX0_span_6 2 rfl rfl)
theorem dX0_span_145 : decode cX0_span 145 = .ok (.goto (-115), 3) := dk_167 255 141 (dk_at dksX0_span_6 5 rfl rfl)
theorem dX0_span_148 : decode cX0_span 148 = .ok (.iconst 0, 1) := dk_3 (dk_at dksX0_span_6 8 rfl rfl)
theorem dX0_span_149 : decode cX0_span 149 = .ok (.iload 5, 2) := dk_21 5 (dk_at dksX0_span_6 9 rfl rfl)
theorem dX0_span_151 : decode cX0_span 151 = .ok (.iload 4, 2) := dk_21 4 (dk_at dksX0_span_6 11 rfl rfl)
theorem dX0_span_153 : decode cX0_span 153 = .ok (.isub, 1) := dk_100 (dk_at dksX0_span_6 13 rfl rfl)
theorem dX0_span_154 : decode cX0_span 154 = .ok (.iconst 1, 1) := dk_4 (dk_at dksX0_span_6 14 rfl rfl)
theorem dX0_span_155 : decode cX0_span 155 = .ok (.iadd, 1) := dk_96 (dk_at dksX0_span_6 15 rfl rfl)
theorem dX0_span_156 : decode cX0_span 156 = .ok (.invokestatic 359, 3) := dk_184 1 103 (dk_at dksX0_span_6 16 rfl rfl)
theorem dX0_span_159 : decode cX0_span 159 = .ok (.istore 6, 2) := dk_54 6 (dk_at dksX0_span_6 19 rfl rfl)
theorem dX0_span_161 : decode cX0_span 161 = .ok (.iload_n 2, 1) := dk_28 (dk_at dksX0_span_6 21 rfl rfl)
theorem dX0_span_162 : decode cX0_span 162 = .ok (.iconst 2, 1) := dk_5 (dk_at dksX0_span_6 22 rfl rfl)
theorem dX0_span_163 : decode cX0_span 163 = .ok (.if_icmp .ne 8, 3) := dk_160 0 8 (dk_at dksX0_span_7 0 rfl rfl)
theorem dX0_span_166 : decode cX0_span 166 = .ok (.iload 6, 2) := dk_21 6 (dk_at dksX0_span_7 3 rfl rfl)
theorem dX0_span_168 : decode cX0_span 168 = .ok (.goto 23, 3) := dk_167 0 23 (dk_at dksX0_span_7 5 rfl rfl)
theorem dX0_span_171 : decode cX0_span 171 = .ok (.iload 6, 2) := dk_21 6 (dk_at dksX0_span_7 8 rfl rfl)
theorem dX0_span_173 : decode cX0_span 173 = .ok (.ifCond .ne 7, 3) := dk_154 0 7 (dk_at dksX0_span_7 10 rfl rfl)
theorem dX0_span_176 : decode cX0_span 176 = .ok (.iconst (-1), 1) := dk_2 (dk_at dksX0_span_7 13 rfl rfl)
theorem dX0_span_177 : decode cX0_span 177 = .ok (.goto 14, 3) := dk_167 0 14 (dk_at dksX0_span_7 14 rfl rfl)
theorem dX0_span_180 : decode cX0_span 180 = .ok (.iload_n 2, 1) := dk_28 (dk_at dksX0_span_7 17 rfl rfl)
theorem dX0_span_181 : decode cX0_span 181 = .ok (.ifCond .ne 8, 3) := dk_154 0 8 (dk_at dksX0_span_7 18 rfl rfl)
theorem dX0_span_184 : decode cX0_span 184 = .ok (.iload 4, 2) := dk_21 4 (dk_at dksX0_span_7 21 rfl rfl)
theorem dX0_span_186 : decode cX0_span 186 = .ok (.goto 5, 3) := dk_167 0 5 (dk_at dksX0_span_8 0 rfl rfl)
theorem dX0_span_189 : decode cX0_span 189 = .ok (.iload 5, 2) := dk_21 5 (dk_at dksX0_span_8 3 rfl rfl)
theorem dX0_span_191 : decode cX0_span 191 = .ok (.ireturn, 1) := dk_172 (dk_at dksX0_span_8 5 rfl rfl)
abbrev cX0_backward : ByteArray := prog_1_method_80_code
def yX0_backward : MethodName := ⟨RX0, "backward", "(II)I"⟩
def dkwX0_backward_2 : List UInt8 := [180, 0, 93, 3, 46, 130, 172]
abbrev dktX0_backward_2 : List UInt8 := dkwX0_backward_2 ++ []
def dkwX0_backward_1 : List UInt8 := [27, 46, 42, 180, 0, 90, 3, 46, 159, 0, 7, 2, 167, 0, 16, 42, 180, 0, 93, 27, 46, 42]
abbrev dktX0_backward_1 : List UInt8 := dkwX0_backward_1 ++ dktX0_backward_2
def dkwX0_backward_0 : List UInt8 := [27, 184, 1, 49, 154, 0, 5, 2, 172, 42, 28, 182, 1, 133, 154, 0, 6, 16, 254, 172, 42, 180, 0, 90]
abbrev dktX0_backward_0 : List UInt8 := dkwX0_backward_0 ++ dktX0_backward_1
theorem dksX0_backward_0 : cX0_backward.data.toList.drop 0 = dktX0_backward_0 := by decide +kernel
theorem dksX0_backward_1 : cX0_backward.data.toList.drop 24 = dktX0_backward_1 := dk_seg dksX0_backward_0 24 rfl rfl
theorem dksX0_backward_2 : cX0_backward.data.toList.drop 46 = dktX0_backward_2 := dk_seg dksX0_backward_1 22 rfl rfl
theorem dX0_backward_0 : decode cX0_backward 0 = .ok (.iload_n 1, 1) := dk_27 (dk_at dksX0_backward_0 0 rfl rfl)
theorem dX0_backward_1 : decode cX0_backward 1 = .ok (.invokestatic 305, 3) := dk_184 1 49 (dk_at dksX0_backward_0 1 rfl rfl)
theorem dX0_backward_4 : decode cX0_backward 4 = .ok (.ifCond .ne 5, 3) := dk_154 0 5 (dk_at dksX0_backward_0 4 rfl rfl)
theorem dX0_backward_7 : decode cX0_backward 7 = .ok (.iconst (-1), 1) := dk_2 (dk_at dksX0_backward_0 7 rfl rfl)
theorem dX0_backward_8 : decode cX0_backward 8 = .ok (.ireturn, 1) := dk_172 (dk_at dksX0_backward_0 8 rfl rfl)
theorem dX0_backward_9 : decode cX0_backward 9 = .ok (.aload_n 0, 1) := dk_42 (dk_at dksX0_backward_0 9 rfl rfl)
theorem dX0_backward_10 : decode cX0_backward 10 = .ok (.iload_n 2, 1) := dk_28 (dk_at dksX0_backward_0 10 rfl rfl)
theorem dX0_backward_11 : decode cX0_backward 11 = .ok (.invokevirtual 389, 3) := dk_182 1 133 (dk_at dksX0_backward_0 11 rfl rfl)
theorem dX0_backward_14 : decode cX0_backward 14 = .ok (.ifCond .ne 6, 3) := dk_154 0 6 (dk_at dksX0_backward_0 14 rfl rfl)
theorem dX0_backward_17 : decode cX0_backward 17 = .ok (.bipush (-2), 2) := dk_16 254 (dk_at dksX0_backward_0 17 rfl rfl)
theorem dX0_backward_19 : decode cX0_backward 19 = .ok (.ireturn, 1) := dk_172 (dk_at dksX0_backward_0 19 rfl rfl)
theorem dX0_backward_20 : decode cX0_backward 20 = .ok (.aload_n 0, 1) := dk_42 (dk_at dksX0_backward_0 20 rfl rfl)
theorem dX0_backward_21 : decode cX0_backward 21 = .ok (.getfield 90, 3) := dk_180 0 90 (dk_at dksX0_backward_0 21 rfl rfl)
theorem dX0_backward_24 : decode cX0_backward 24 = .ok (.iload_n 1, 1) := dk_27 (dk_at dksX0_backward_1 0 rfl rfl)
theorem dX0_backward_25 : decode cX0_backward 25 = .ok (.iaload, 1) := dk_46 (dk_at dksX0_backward_1 1 rfl rfl)
theorem dX0_backward_26 : decode cX0_backward 26 = .ok (.aload_n 0, 1) := dk_42 (dk_at dksX0_backward_1 2 rfl rfl)
theorem dX0_backward_27 : decode cX0_backward 27 = .ok (.getfield 90, 3) := dk_180 0 90 (dk_at dksX0_backward_1 3 rfl rfl)
theorem dX0_backward_30 : decode cX0_backward 30 = .ok (.iconst 0, 1) := dk_3 (dk_at dksX0_backward_1 6 rfl rfl)
theorem dX0_backward_31 : decode cX0_backward 31 = .ok (.iaload, 1) := dk_46 (dk_at dksX0_backward_1 7 rfl rfl)
theorem dX0_backward_32 : decode cX0_backward 32 = .ok (.if_icmp .eq 7, 3) := dk_159 0 7 (dk_at dksX0_backward_1 8 rfl rfl)
theorem dX0_backward_35 : decode cX0_backward 35 = .ok (.iconst (-1), 1) := dk_2 (dk_at dksX0_backward_1 11 rfl rfl)
theorem dX0_backward_36 : decode cX0_backward 36 = .ok (.goto 16, 3) := dk_167 0 16 (dk_at dksX0_backward_1 12 rfl rfl)
theorem dX0_backward_39 : decode cX0_backward 39 = .ok (.aload_n 0, 1) := dk_42 (dk_at dksX0_backward_1 15 rfl rfl)
theorem dX0_backward_40 : decode cX0_backward 40 = .ok (.getfield 93, 3) := dk_180 0 93 (dk_at dksX0_backward_1 16 rfl rfl)
theorem dX0_backward_43 : decode cX0_backward 43 = .ok (.iload_n 1, 1) := dk_27 (dk_at dksX0_backward_1 19 rfl rfl)
theorem dX0_backward_44 : decode cX0_backward 44 = .ok (.iaload, 1) := dk_46 (dk_at dksX0_backward_1 20 rfl rfl)
theorem dX0_backward_45 : decode cX0_backward 45 = .ok (.aload_n 0, 1) := dk_42 (dk_at dksX0_backward_1 21 rfl rfl)
theorem dX0_backward_46 : decode cX0_backward 46 = .ok (.getfield 93, 3) := dk_180 0 93 (dk_at dksX0_backward_2 0 rfl rfl)
theorem dX0_backward_49 : decode cX0_backward 49 = .ok (.iconst 0, 1) := dk_3 (dk_at dksX0_backward_2 3 rfl rfl)
theorem dX0_backward_50 : decode cX0_backward 50 = .ok (.iaload, 1) := dk_46 (dk_at dksX0_backward_2 4 rfl rfl)
theorem dX0_backward_51 : decode cX0_backward 51 = .ok (.ixor, 1) := dk_130 (dk_at dksX0_backward_2 5 rfl rfl)
theorem dX0_backward_52 : decode cX0_backward 52 = .ok (.ireturn, 1) := dk_172 (dk_at dksX0_backward_2 6 rfl rfl)
abbrev cX0_layLinks : ByteArray := prog_1_method_78_code
def yX0_layLinks : MethodName := ⟨RX0, "layLinks", "(I)Z"⟩
def dkwX0_layLinks_8 : List UInt8 := [182, 1, 129, 132, 3, 1, 167, 255, 98, 28, 172]
abbrev dktX0_layLinks_8 : List UInt8 := dkwX0_layLinks_8 ++ []
def dkwX0_layLinks_7 : List UInt8 := [42, 180, 0, 90, 25, 4, 180, 1, 121, 46, 42, 180, 0, 90, 25, 4, 180, 1, 124, 46, 21, 5]
abbrev dktX0_layLinks_7 : List UInt8 := dkwX0_layLinks_7 ++ dktX0_layLinks_8
def dkwX0_layLinks_6 : List UInt8 := [25, 4, 180, 1, 124, 46, 160, 0, 17, 21, 5, 154, 0, 7, 4, 167, 0, 4, 3, 61, 167, 0, 29, 42]
abbrev dktX0_layLinks_6 : List UInt8 := dkwX0_layLinks_6 ++ dktX0_layLinks_7
def dkwX0_layLinks_5 : List UInt8 := [46, 130, 25, 4, 180, 1, 127, 130, 54, 5, 42, 180, 0, 90, 25, 4, 180, 1, 121, 46, 42, 180, 0, 90]
abbrev dktX0_layLinks_5 : List UInt8 := dkwX0_layLinks_5 ++ dktX0_layLinks_6
def dkwX0_layLinks_4 : List UInt8 := [192, 1, 52, 58, 4, 42, 180, 0, 93, 25, 4, 180, 1, 121, 46, 42, 180, 0, 93, 25, 4, 180, 1, 124]
abbrev dktX0_layLinks_4 : List UInt8 := dkwX0_layLinks_4 ++ dktX0_layLinks_5
def dkwX0_layLinks_3 : List UInt8 := [180, 0, 74, 29, 182, 1, 55, 193, 1, 52, 154, 0, 6, 167, 0, 108, 42, 180, 0, 74, 29, 182, 1, 55]
abbrev dktX0_layLinks_3 : List UInt8 := dkwX0_layLinks_3 ++ dktX0_layLinks_4
def dkwX0_layLinks_2 : List UInt8 := [153, 0, 149, 42, 180, 0, 74, 29, 182, 1, 55, 192, 1, 59, 27, 182, 1, 68, 153, 0, 125, 42]
abbrev dktX0_layLinks_2 : List UInt8 := dkwX0_layLinks_2 ++ dktX0_layLinks_3
def dkwX0_layLinks_1 : List UInt8 := [132, 2, 1, 167, 255, 233, 4, 61, 3, 62, 29, 42, 180, 0, 74, 182, 0, 144, 162, 0, 153, 28]
abbrev dktX0_layLinks_1 : List UInt8 := dkwX0_layLinks_1 ++ dktX0_layLinks_2
def dkwX0_layLinks_0 : List UInt8 := [3, 61, 28, 16, 8, 162, 0, 23, 42, 180, 0, 90, 28, 28, 79, 42, 180, 0, 93, 28, 3, 79]
abbrev dktX0_layLinks_0 : List UInt8 := dkwX0_layLinks_0 ++ dktX0_layLinks_1
theorem dksX0_layLinks_0 : cX0_layLinks.data.toList.drop 0 = dktX0_layLinks_0 := by decide +kernel
theorem dksX0_layLinks_1 : cX0_layLinks.data.toList.drop 22 = dktX0_layLinks_1 := dk_seg dksX0_layLinks_0 22 rfl rfl
theorem dksX0_layLinks_2 : cX0_layLinks.data.toList.drop 44 = dktX0_layLinks_2 := dk_seg dksX0_layLinks_1 22 rfl rfl
theorem dksX0_layLinks_3 : cX0_layLinks.data.toList.drop 66 = dktX0_layLinks_3 := dk_seg dksX0_layLinks_2 22 rfl rfl
theorem dksX0_layLinks_4 : cX0_layLinks.data.toList.drop 90 = dktX0_layLinks_4 := dk_seg dksX0_layLinks_3 24 rfl rfl
theorem dksX0_layLinks_5 : cX0_layLinks.data.toList.drop 114 = dktX0_layLinks_5 := dk_seg dksX0_layLinks_4 24 rfl rfl
theorem dksX0_layLinks_6 : cX0_layLinks.data.toList.drop 138 = dktX0_layLinks_6 := dk_seg dksX0_layLinks_5 24 rfl rfl
theorem dksX0_layLinks_7 : cX0_layLinks.data.toList.drop 162 = dktX0_layLinks_7 := dk_seg dksX0_layLinks_6 24 rfl rfl
theorem dksX0_layLinks_8 : cX0_layLinks.data.toList.drop 184 = dktX0_layLinks_8 := dk_seg dksX0_layLinks_7 22 rfl rfl
theorem dX0_layLinks_0 : decode cX0_layLinks 0 = .ok (.iconst 0, 1) := dk_3 (dk_at dksX0_layLinks_0 0 rfl rfl)
theorem dX0_layLinks_1 : decode cX0_layLinks 1 = .ok (.istore_n 2, 1) := dk_61 (dk_at dksX0_layLinks_0 1 rfl rfl)
theorem dX0_layLinks_2 : decode cX0_layLinks 2 = .ok (.iload_n 2, 1) := dk_28 (dk_at dksX0_layLinks_0 2 rfl rfl)
theorem dX0_layLinks_3 : decode cX0_layLinks 3 = .ok (.bipush 8, 2) := dk_16 8 (dk_at dksX0_layLinks_0 3 rfl rfl)
theorem dX0_layLinks_5 : decode cX0_layLinks 5 = .ok (.if_icmp .ge 23, 3) := dk_162 0 23 (dk_at dksX0_layLinks_0 5 rfl rfl)
theorem dX0_layLinks_8 : decode cX0_layLinks 8 = .ok (.aload_n 0, 1) := dk_42 (dk_at dksX0_layLinks_0 8 rfl rfl)
theorem dX0_layLinks_9 : decode cX0_layLinks 9 = .ok (.getfield 90, 3) := dk_180 0 90 (dk_at dksX0_layLinks_0 9 rfl rfl)
theorem dX0_layLinks_12 : decode cX0_layLinks 12 = .ok (.iload_n 2, 1) := dk_28 (dk_at dksX0_layLinks_0 12 rfl rfl)
theorem dX0_layLinks_13 : decode cX0_layLinks 13 = .ok (.iload_n 2, 1) := dk_28 (dk_at dksX0_layLinks_0 13 rfl rfl)
theorem dX0_layLinks_14 : decode cX0_layLinks 14 = .ok (.iastore, 1) := dk_79 (dk_at dksX0_layLinks_0 14 rfl rfl)
theorem dX0_layLinks_15 : decode cX0_layLinks 15 = .ok (.aload_n 0, 1) := dk_42 (dk_at dksX0_layLinks_0 15 rfl rfl)
theorem dX0_layLinks_16 : decode cX0_layLinks 16 = .ok (.getfield 93, 3) := dk_180 0 93 (dk_at dksX0_layLinks_0 16 rfl rfl)
theorem dX0_layLinks_19 : decode cX0_layLinks 19 = .ok (.iload_n 2, 1) := dk_28 (dk_at dksX0_layLinks_0 19 rfl rfl)
theorem dX0_layLinks_20 : decode cX0_layLinks 20 = .ok (.iconst 0, 1) := dk_3 (dk_at dksX0_layLinks_0 20 rfl rfl)
theorem dX0_layLinks_21 : decode cX0_layLinks 21 = .ok (.iastore, 1) := dk_79 (dk_at dksX0_layLinks_0 21 rfl rfl)
theorem dX0_layLinks_22 : decode cX0_layLinks 22 = .ok (.iinc 2 1, 3) := dk_132 2 1 (dk_at dksX0_layLinks_1 0 rfl rfl)
theorem dX0_layLinks_25 : decode cX0_layLinks 25 = .ok (.goto (-23), 3) := dk_167 255 233 (dk_at dksX0_layLinks_1 3 rfl rfl)
theorem dX0_layLinks_28 : decode cX0_layLinks 28 = .ok (.iconst 1, 1) := dk_4 (dk_at dksX0_layLinks_1 6 rfl rfl)
theorem dX0_layLinks_29 : decode cX0_layLinks 29 = .ok (.istore_n 2, 1) := dk_61 (dk_at dksX0_layLinks_1 7 rfl rfl)
theorem dX0_layLinks_30 : decode cX0_layLinks 30 = .ok (.iconst 0, 1) := dk_3 (dk_at dksX0_layLinks_1 8 rfl rfl)
theorem dX0_layLinks_31 : decode cX0_layLinks 31 = .ok (.istore_n 3, 1) := dk_62 (dk_at dksX0_layLinks_1 9 rfl rfl)
theorem dX0_layLinks_32 : decode cX0_layLinks 32 = .ok (.iload_n 3, 1) := dk_29 (dk_at dksX0_layLinks_1 10 rfl rfl)
theorem dX0_layLinks_33 : decode cX0_layLinks 33 = .ok (.aload_n 0, 1) := dk_42 (dk_at dksX0_layLinks_1 11 rfl rfl)
theorem dX0_layLinks_34 : decode cX0_layLinks 34 = .ok (.getfield 74, 3) := dk_180 0 74 (dk_at dksX0_layLinks_1 12 rfl rfl)
theorem dX0_layLinks_37 : decode cX0_layLinks 37 = .ok (.invokevirtual 144, 3) := dk_182 0 144 (dk_at dksX0_layLinks_1 15 rfl rfl)
theorem dX0_layLinks_40 : decode cX0_layLinks 40 = .ok (.if_icmp .ge 153, 3) := dk_162 0 153 (dk_at dksX0_layLinks_1 18 rfl rfl)
theorem dX0_layLinks_43 : decode cX0_layLinks 43 = .ok (.iload_n 2, 1) := dk_28 (dk_at dksX0_layLinks_1 21 rfl rfl)
theorem dX0_layLinks_44 : decode cX0_layLinks 44 = .ok (.ifCond .eq 149, 3) := dk_153 0 149 (dk_at dksX0_layLinks_2 0 rfl rfl)
theorem dX0_layLinks_47 : decode cX0_layLinks 47 = .ok (.aload_n 0, 1) := dk_42 (dk_at dksX0_layLinks_2 3 rfl rfl)
theorem dX0_layLinks_48 : decode cX0_layLinks 48 = .ok (.getfield 74, 3) := dk_180 0 74 (dk_at dksX0_layLinks_2 4 rfl rfl)
theorem dX0_layLinks_51 : decode cX0_layLinks 51 = .ok (.iload_n 3, 1) := dk_29 (dk_at dksX0_layLinks_2 7 rfl rfl)
theorem dX0_layLinks_52 : decode cX0_layLinks 52 = .ok (.invokevirtual 311, 3) := dk_182 1 55 (dk_at dksX0_layLinks_2 8 rfl rfl)
theorem dX0_layLinks_55 : decode cX0_layLinks 55 = .ok (.checkcast 315, 3) := dk_192 1 59 (dk_at dksX0_layLinks_2 11 rfl rfl)
theorem dX0_layLinks_58 : decode cX0_layLinks 58 = .ok (.iload_n 1, 1) := dk_27 (dk_at dksX0_layLinks_2 14 rfl rfl)
theorem dX0_layLinks_59 : decode cX0_layLinks 59 = .ok (.invokevirtual 324, 3) := dk_182 1 68 (dk_at dksX0_layLinks_2 15 rfl rfl)
theorem dX0_layLinks_62 : decode cX0_layLinks 62 = .ok (.ifCond .eq 125, 3) := dk_153 0 125 (dk_at dksX0_layLinks_2 18 rfl rfl)
theorem dX0_layLinks_65 : decode cX0_layLinks 65 = .ok (.aload_n 0, 1) := dk_42 (dk_at dksX0_layLinks_2 21 rfl rfl)
theorem dX0_layLinks_66 : decode cX0_layLinks 66 = .ok (.getfield 74, 3) := dk_180 0 74 (dk_at dksX0_layLinks_3 0 rfl rfl)
theorem dX0_layLinks_69 : decode cX0_layLinks 69 = .ok (.iload_n 3, 1) := dk_29 (dk_at dksX0_layLinks_3 3 rfl rfl)
theorem dX0_layLinks_70 : decode cX0_layLinks 70 = .ok (.invokevirtual 311, 3) := dk_182 1 55 (dk_at dksX0_layLinks_3 4 rfl rfl)
theorem dX0_layLinks_73 : decode cX0_layLinks 73 = .ok (.instanceof 308, 3) := dk_193 1 52 (dk_at dksX0_layLinks_3 7 rfl rfl)
theorem dX0_layLinks_76 : decode cX0_layLinks 76 = .ok (.ifCond .ne 6, 3) := dk_154 0 6 (dk_at dksX0_layLinks_3 10 rfl rfl)
theorem dX0_layLinks_79 : decode cX0_layLinks 79 = .ok (.goto 108, 3) := dk_167 0 108 (dk_at dksX0_layLinks_3 13 rfl rfl)
theorem dX0_layLinks_82 : decode cX0_layLinks 82 = .ok (.aload_n 0, 1) := dk_42 (dk_at dksX0_layLinks_3 16 rfl rfl)
theorem dX0_layLinks_83 : decode cX0_layLinks 83 = .ok (.getfield 74, 3) := dk_180 0 74 (dk_at dksX0_layLinks_3 17 rfl rfl)
theorem dX0_layLinks_86 : decode cX0_layLinks 86 = .ok (.iload_n 3, 1) := dk_29 (dk_at dksX0_layLinks_3 20 rfl rfl)
theorem dX0_layLinks_87 : decode cX0_layLinks 87 = .ok (.invokevirtual 311, 3) := dk_182 1 55 (dk_at dksX0_layLinks_3 21 rfl rfl)
theorem dX0_layLinks_90 : decode cX0_layLinks 90 = .ok (.checkcast 308, 3) := dk_192 1 52 (dk_at dksX0_layLinks_4 0 rfl rfl)
theorem dX0_layLinks_93 : decode cX0_layLinks 93 = .ok (.astore 4, 2) := dk_58 4 (dk_at dksX0_layLinks_4 3 rfl rfl)
theorem dX0_layLinks_95 : decode cX0_layLinks 95 = .ok (.aload_n 0, 1) := dk_42 (dk_at dksX0_layLinks_4 5 rfl rfl)
theorem dX0_layLinks_96 : decode cX0_layLinks 96 = .ok (.getfield 93, 3) := dk_180 0 93 (dk_at dksX0_layLinks_4 6 rfl rfl)
theorem dX0_layLinks_99 : decode cX0_layLinks 99 = .ok (.aload 4, 2) := dk_25 4 (dk_at dksX0_layLinks_4 9 rfl rfl)
theorem dX0_layLinks_101 : decode cX0_layLinks 101 = .ok (.getfield 377, 3) := dk_180 1 121 (dk_at dksX0_layLinks_4 11 rfl rfl)
theorem dX0_layLinks_104 : decode cX0_layLinks 104 = .ok (.iaload, 1) := dk_46 (dk_at dksX0_layLinks_4 14 rfl rfl)
theorem dX0_layLinks_105 : decode cX0_layLinks 105 = .ok (.aload_n 0, 1) := dk_42 (dk_at dksX0_layLinks_4 15 rfl rfl)
theorem dX0_layLinks_106 : decode cX0_layLinks 106 = .ok (.getfield 93, 3) := dk_180 0 93 (dk_at dksX0_layLinks_4 16 rfl rfl)
theorem dX0_layLinks_109 : decode cX0_layLinks 109 = .ok (.aload 4, 2) := dk_25 4 (dk_at dksX0_layLinks_4 19 rfl rfl)
theorem dX0_layLinks_111 : decode cX0_layLinks 111 = .ok (.getfield 380, 3) := dk_180 1 124 (dk_at dksX0_layLinks_4 21 rfl rfl)
theorem dX0_layLinks_114 : decode cX0_layLinks 114 = .ok (.iaload, 1) := dk_46 (dk_at dksX0_layLinks_5 0 rfl rfl)
theorem dX0_layLinks_115 : decode cX0_layLinks 115 = .ok (.ixor, 1) := dk_130 (dk_at dksX0_layLinks_5 1 rfl rfl)
theorem dX0_layLinks_116 : decode cX0_layLinks 116 = .ok (.aload 4, 2) := dk_25 4 (dk_at dksX0_layLinks_5 2 rfl rfl)
theorem dX0_layLinks_118 : decode cX0_layLinks 118 = .ok (.getfield 383, 3) := dk_180 1 127 (dk_at dksX0_layLinks_5 4 rfl rfl)
theorem dX0_layLinks_121 : decode cX0_layLinks 121 = .ok (.ixor, 1) := dk_130 (dk_at dksX0_layLinks_5 7 rfl rfl)
theorem dX0_layLinks_122 : decode cX0_layLinks 122 = .ok (.istore 5, 2) := dk_54 5 (dk_at dksX0_layLinks_5 8 rfl rfl)
theorem dX0_layLinks_124 : decode cX0_layLinks 124 = .ok (.aload_n 0, 1) := dk_42 (dk_at dksX0_layLinks_5 10 rfl rfl)
theorem dX0_layLinks_125 : decode cX0_layLinks 125 = .ok (.getfield 90, 3) := dk_180 0 90 (dk_at dksX0_layLinks_5 11 rfl rfl)
theorem dX0_layLinks_128 : decode cX0_layLinks 128 = .ok (.aload 4, 2) := dk_25 4 (dk_at dksX0_layLinks_5 14 rfl rfl)
theorem dX0_layLinks_130 : decode cX0_layLinks 130 = .ok (.getfield 377, 3) := dk_180 1 121 (dk_at dksX0_layLinks_5 16 rfl rfl)
theorem dX0_layLinks_133 : decode cX0_layLinks 133 = .ok (.iaload, 1) := dk_46 (dk_at dksX0_layLinks_5 19 rfl rfl)
theorem dX0_layLinks_134 : decode cX0_layLinks 134 = .ok (.aload_n 0, 1) := dk_42 (dk_at dksX0_layLinks_5 20 rfl rfl)
theorem dX0_layLinks_135 : decode cX0_layLinks 135 = .ok (.getfield 90, 3) := dk_180 0 90 (dk_at dksX0_layLinks_5 21 rfl rfl)
theorem dX0_layLinks_138 : decode cX0_layLinks 138 = .ok (.aload 4, 2) := dk_25 4 (dk_at dksX0_layLinks_6 0 rfl rfl)
theorem dX0_layLinks_140 : decode cX0_layLinks 140 = .ok (.getfield 380, 3) := dk_180 1 124 (dk_at dksX0_layLinks_6 2 rfl rfl)
theorem dX0_layLinks_143 : decode cX0_layLinks 143 = .ok (.iaload, 1) := dk_46 (dk_at dksX0_layLinks_6 5 rfl rfl)
theorem dX0_layLinks_144 : decode cX0_layLinks 144 = .ok (.if_icmp .ne 17, 3) := dk_160 0 17 (dk_at dksX0_layLinks_6 6 rfl rfl)
theorem dX0_layLinks_147 : decode cX0_layLinks 147 = .ok (.iload 5, 2) := dk_21 5 (dk_at dksX0_layLinks_6 9 rfl rfl)
theorem dX0_layLinks_149 : decode cX0_layLinks 149 = .ok (.ifCond .ne 7, 3) := dk_154 0 7 (dk_at dksX0_layLinks_6 11 rfl rfl)
theorem dX0_layLinks_152 : decode cX0_layLinks 152 = .ok (.iconst 1, 1) := dk_4 (dk_at dksX0_layLinks_6 14 rfl rfl)
theorem dX0_layLinks_153 : decode cX0_layLinks 153 = .ok (.goto 4, 3) := dk_167 0 4 (dk_at dksX0_layLinks_6 15 rfl rfl)
theorem dX0_layLinks_156 : decode cX0_layLinks 156 = .ok (.iconst 0, 1) := dk_3 (dk_at dksX0_layLinks_6 18 rfl rfl)
theorem dX0_layLinks_157 : decode cX0_layLinks 157 = .ok (.istore_n 2, 1) := dk_61 (dk_at dksX0_layLinks_6 19 rfl rfl)
theorem dX0_layLinks_158 : decode cX0_layLinks 158 = .ok (.goto 29, 3) := dk_167 0 29 (dk_at dksX0_layLinks_6 20 rfl rfl)
theorem dX0_layLinks_161 : decode cX0_layLinks 161 = .ok (.aload_n 0, 1) := dk_42 (dk_at dksX0_layLinks_6 23 rfl rfl)
theorem dX0_layLinks_162 : decode cX0_layLinks 162 = .ok (.aload_n 0, 1) := dk_42 (dk_at dksX0_layLinks_7 0 rfl rfl)
theorem dX0_layLinks_163 : decode cX0_layLinks 163 = .ok (.getfield 90, 3) := dk_180 0 90 (dk_at dksX0_layLinks_7 1 rfl rfl)
theorem dX0_layLinks_166 : decode cX0_layLinks 166 = .ok (.aload 4, 2) := dk_25 4 (dk_at dksX0_layLinks_7 4 rfl rfl)
theorem dX0_layLinks_168 : decode cX0_layLinks 168 = .ok (.getfield 377, 3) := dk_180 1 121 (dk_at dksX0_layLinks_7 6 rfl rfl)
theorem dX0_layLinks_171 : decode cX0_layLinks 171 = .ok (.iaload, 1) := dk_46 (dk_at dksX0_layLinks_7 9 rfl rfl)
theorem dX0_layLinks_172 : decode cX0_layLinks 172 = .ok (.aload_n 0, 1) := dk_42 (dk_at dksX0_layLinks_7 10 rfl rfl)
theorem dX0_layLinks_173 : decode cX0_layLinks 173 = .ok (.getfield 90, 3) := dk_180 0 90 (dk_at dksX0_layLinks_7 11 rfl rfl)
theorem dX0_layLinks_176 : decode cX0_layLinks 176 = .ok (.aload 4, 2) := dk_25 4 (dk_at dksX0_layLinks_7 14 rfl rfl)
theorem dX0_layLinks_178 : decode cX0_layLinks 178 = .ok (.getfield 380, 3) := dk_180 1 124 (dk_at dksX0_layLinks_7 16 rfl rfl)
theorem dX0_layLinks_181 : decode cX0_layLinks 181 = .ok (.iaload, 1) := dk_46 (dk_at dksX0_layLinks_7 19 rfl rfl)
theorem dX0_layLinks_182 : decode cX0_layLinks 182 = .ok (.iload 5, 2) := dk_21 5 (dk_at dksX0_layLinks_7 20 rfl rfl)
theorem dX0_layLinks_184 : decode cX0_layLinks 184 = .ok (.invokevirtual 385, 3) := dk_182 1 129 (dk_at dksX0_layLinks_8 0 rfl rfl)
theorem dX0_layLinks_187 : decode cX0_layLinks 187 = .ok (.iinc 3 1, 3) := dk_132 3 1 (dk_at dksX0_layLinks_8 3 rfl rfl)
theorem dX0_layLinks_190 : decode cX0_layLinks 190 = .ok (.goto (-158), 3) := dk_167 255 98 (dk_at dksX0_layLinks_8 6 rfl rfl)
theorem dX0_layLinks_193 : decode cX0_layLinks 193 = .ok (.iload_n 2, 1) := dk_28 (dk_at dksX0_layLinks_8 9 rfl rfl)
theorem dX0_layLinks_194 : decode cX0_layLinks 194 = .ok (.ireturn, 1) := dk_172 (dk_at dksX0_layLinks_8 10 rfl rfl)
abbrev cX0_join : ByteArray := prog_1_method_79_code
def yX0_join : MethodName := ⟨RX0, "join", "(III)V"⟩
def dkwX0_join_2 : List UInt8 := [167, 255, 213, 177]
abbrev dktX0_join_2 : List UInt8 := dkwX0_join_2 ++ []
def dkwX0_join_1 : List UInt8 := [42, 180, 0, 90, 21, 4, 28, 79, 42, 180, 0, 93, 21, 4, 92, 46, 29, 130, 79, 132, 4, 1]
abbrev dktX0_join_1 : List UInt8 := dkwX0_join_1 ++ dktX0_join_2
def dkwX0_join_0 : List UInt8 := [3, 54, 4, 21, 4, 16, 8, 162, 0, 42, 42, 180, 0, 90, 21, 4, 46, 27, 159, 0, 6, 167, 0, 22]
abbrev dktX0_join_0 : List UInt8 := dkwX0_join_0 ++ dktX0_join_1
theorem dksX0_join_0 : cX0_join.data.toList.drop 0 = dktX0_join_0 := by decide +kernel
theorem dksX0_join_1 : cX0_join.data.toList.drop 24 = dktX0_join_1 := dk_seg dksX0_join_0 24 rfl rfl
theorem dksX0_join_2 : cX0_join.data.toList.drop 46 = dktX0_join_2 := dk_seg dksX0_join_1 22 rfl rfl
theorem dX0_join_0 : decode cX0_join 0 = .ok (.iconst 0, 1) := dk_3 (dk_at dksX0_join_0 0 rfl rfl)
theorem dX0_join_1 : decode cX0_join 1 = .ok (.istore 4, 2) := dk_54 4 (dk_at dksX0_join_0 1 rfl rfl)
theorem dX0_join_3 : decode cX0_join 3 = .ok (.iload 4, 2) := dk_21 4 (dk_at dksX0_join_0 3 rfl rfl)
theorem dX0_join_5 : decode cX0_join 5 = .ok (.bipush 8, 2) := dk_16 8 (dk_at dksX0_join_0 5 rfl rfl)
theorem dX0_join_7 : decode cX0_join 7 = .ok (.if_icmp .ge 42, 3) := dk_162 0 42 (dk_at dksX0_join_0 7 rfl rfl)
theorem dX0_join_10 : decode cX0_join 10 = .ok (.aload_n 0, 1) := dk_42 (dk_at dksX0_join_0 10 rfl rfl)
theorem dX0_join_11 : decode cX0_join 11 = .ok (.getfield 90, 3) := dk_180 0 90 (dk_at dksX0_join_0 11 rfl rfl)
theorem dX0_join_14 : decode cX0_join 14 = .ok (.iload 4, 2) := dk_21 4 (dk_at dksX0_join_0 14 rfl rfl)
theorem dX0_join_16 : decode cX0_join 16 = .ok (.iaload, 1) := dk_46 (dk_at dksX0_join_0 16 rfl rfl)
theorem dX0_join_17 : decode cX0_join 17 = .ok (.iload_n 1, 1) := dk_27 (dk_at dksX0_join_0 17 rfl rfl)
theorem dX0_join_18 : decode cX0_join 18 = .ok (.if_icmp .eq 6, 3) := dk_159 0 6 (dk_at dksX0_join_0 18 rfl rfl)
theorem dX0_join_21 : decode cX0_join 21 = .ok (.goto 22, 3) := dk_167 0 22 (dk_at dksX0_join_0 21 rfl rfl)
theorem dX0_join_24 : decode cX0_join 24 = .ok (.aload_n 0, 1) := dk_42 (dk_at dksX0_join_1 0 rfl rfl)
theorem dX0_join_25 : decode cX0_join 25 = .ok (.getfield 90, 3) := dk_180 0 90 (dk_at dksX0_join_1 1 rfl rfl)
theorem dX0_join_28 : decode cX0_join 28 = .ok (.iload 4, 2) := dk_21 4 (dk_at dksX0_join_1 4 rfl rfl)
theorem dX0_join_30 : decode cX0_join 30 = .ok (.iload_n 2, 1) := dk_28 (dk_at dksX0_join_1 6 rfl rfl)
theorem dX0_join_31 : decode cX0_join 31 = .ok (.iastore, 1) := dk_79 (dk_at dksX0_join_1 7 rfl rfl)
theorem dX0_join_32 : decode cX0_join 32 = .ok (.aload_n 0, 1) := dk_42 (dk_at dksX0_join_1 8 rfl rfl)
theorem dX0_join_33 : decode cX0_join 33 = .ok (.getfield 93, 3) := dk_180 0 93 (dk_at dksX0_join_1 9 rfl rfl)
theorem dX0_join_36 : decode cX0_join 36 = .ok (.iload 4, 2) := dk_21 4 (dk_at dksX0_join_1 12 rfl rfl)
theorem dX0_join_38 : decode cX0_join 38 = .ok (.dup2, 1) := dk_92 (dk_at dksX0_join_1 14 rfl rfl)
theorem dX0_join_39 : decode cX0_join 39 = .ok (.iaload, 1) := dk_46 (dk_at dksX0_join_1 15 rfl rfl)
theorem dX0_join_40 : decode cX0_join 40 = .ok (.iload_n 3, 1) := dk_29 (dk_at dksX0_join_1 16 rfl rfl)
theorem dX0_join_41 : decode cX0_join 41 = .ok (.ixor, 1) := dk_130 (dk_at dksX0_join_1 17 rfl rfl)
theorem dX0_join_42 : decode cX0_join 42 = .ok (.iastore, 1) := dk_79 (dk_at dksX0_join_1 18 rfl rfl)
theorem dX0_join_43 : decode cX0_join 43 = .ok (.iinc 4 1, 3) := dk_132 4 1 (dk_at dksX0_join_1 19 rfl rfl)
theorem dX0_join_46 : decode cX0_join 46 = .ok (.goto (-43), 3) := dk_167 255 213 (dk_at dksX0_join_2 0 rfl rfl)
theorem dX0_join_49 : decode cX0_join 49 = .ok (.return_, 1) := dk_177 (dk_at dksX0_join_2 3 rfl rfl)
abbrev cX0_lies : ByteArray := prog_1_method_81_code
def yX0_lies : MethodName := ⟨RX0, "lies", "(I)I"⟩
def dkwX0_lies_1 : List UInt8 := [16, 254, 172]
abbrev dktX0_lies_1 : List UInt8 := dkwX0_lies_1 ++ []
def dkwX0_lies_0 : List UInt8 := [27, 3, 42, 180, 0, 121, 4, 100, 184, 0, 150, 153, 0, 12, 42, 180, 0, 55, 27, 46, 167, 0, 5]
abbrev dktX0_lies_0 : List UInt8 := dkwX0_lies_0 ++ dktX0_lies_1
theorem dksX0_lies_0 : cX0_lies.data.toList.drop 0 = dktX0_lies_0 := by decide +kernel
theorem dksX0_lies_1 : cX0_lies.data.toList.drop 23 = dktX0_lies_1 := dk_seg dksX0_lies_0 23 rfl rfl
theorem dX0_lies_0 : decode cX0_lies 0 = .ok (.iload_n 1, 1) := dk_27 (dk_at dksX0_lies_0 0 rfl rfl)
theorem dX0_lies_1 : decode cX0_lies 1 = .ok (.iconst 0, 1) := dk_3 (dk_at dksX0_lies_0 1 rfl rfl)
theorem dX0_lies_2 : decode cX0_lies 2 = .ok (.aload_n 0, 1) := dk_42 (dk_at dksX0_lies_0 2 rfl rfl)
theorem dX0_lies_3 : decode cX0_lies 3 = .ok (.getfield 121, 3) := dk_180 0 121 (dk_at dksX0_lies_0 3 rfl rfl)
theorem dX0_lies_6 : decode cX0_lies 6 = .ok (.iconst 1, 1) := dk_4 (dk_at dksX0_lies_0 6 rfl rfl)
theorem dX0_lies_7 : decode cX0_lies 7 = .ok (.isub, 1) := dk_100 (dk_at dksX0_lies_0 7 rfl rfl)
theorem dX0_lies_8 : decode cX0_lies 8 = .ok (.invokestatic 150, 3) := dk_184 0 150 (dk_at dksX0_lies_0 8 rfl rfl)
theorem dX0_lies_11 : decode cX0_lies 11 = .ok (.ifCond .eq 12, 3) := dk_153 0 12 (dk_at dksX0_lies_0 11 rfl rfl)
theorem dX0_lies_14 : decode cX0_lies 14 = .ok (.aload_n 0, 1) := dk_42 (dk_at dksX0_lies_0 14 rfl rfl)
theorem dX0_lies_15 : decode cX0_lies 15 = .ok (.getfield 55, 3) := dk_180 0 55 (dk_at dksX0_lies_0 15 rfl rfl)
theorem dX0_lies_18 : decode cX0_lies 18 = .ok (.iload_n 1, 1) := dk_27 (dk_at dksX0_lies_0 18 rfl rfl)
theorem dX0_lies_19 : decode cX0_lies 19 = .ok (.iaload, 1) := dk_46 (dk_at dksX0_lies_0 19 rfl rfl)
theorem dX0_lies_20 : decode cX0_lies 20 = .ok (.goto 5, 3) := dk_167 0 5 (dk_at dksX0_lies_0 20 rfl rfl)
theorem dX0_lies_23 : decode cX0_lies 23 = .ok (.bipush (-2), 2) := dk_16 254 (dk_at dksX0_lies_1 0 rfl rfl)
theorem dX0_lies_25 : decode cX0_lies 25 = .ok (.ireturn, 1) := dk_172 (dk_at dksX0_lies_1 2 rfl rfl)
abbrev cX0_image : ByteArray := prog_1_method_83_code
def yX0_image : MethodName := ⟨RX0, "image", "(I)I"⟩
def dkwX0_image_1 : List UInt8 := [180, 0, 99, 27, 4, 84, 42, 180, 0, 31, 180, 0, 154, 172]
abbrev dktX0_image_1 : List UInt8 := dkwX0_image_1 ++ []
def dkwX0_image_0 : List UInt8 := [27, 184, 1, 136, 154, 0, 5, 2, 172, 42, 180, 0, 96, 27, 50, 42, 180, 0, 31, 182, 0, 216, 87, 42]
abbrev dktX0_image_0 : List UInt8 := dkwX0_image_0 ++ dktX0_image_1
theorem dksX0_image_0 : cX0_image.data.toList.drop 0 = dktX0_image_0 := by decide +kernel
theorem dksX0_image_1 : cX0_image.data.toList.drop 24 = dktX0_image_1 := dk_seg dksX0_image_0 24 rfl rfl
theorem dX0_image_0 : decode cX0_image 0 = .ok (.iload_n 1, 1) := dk_27 (dk_at dksX0_image_0 0 rfl rfl)
theorem dX0_image_1 : decode cX0_image 1 = .ok (.invokestatic 392, 3) := dk_184 1 136 (dk_at dksX0_image_0 1 rfl rfl)
theorem dX0_image_4 : decode cX0_image 4 = .ok (.ifCond .ne 5, 3) := dk_154 0 5 (dk_at dksX0_image_0 4 rfl rfl)
theorem dX0_image_7 : decode cX0_image 7 = .ok (.iconst (-1), 1) := dk_2 (dk_at dksX0_image_0 7 rfl rfl)
theorem dX0_image_8 : decode cX0_image 8 = .ok (.ireturn, 1) := dk_172 (dk_at dksX0_image_0 8 rfl rfl)
theorem dX0_image_9 : decode cX0_image 9 = .ok (.aload_n 0, 1) := dk_42 (dk_at dksX0_image_0 9 rfl rfl)
theorem dX0_image_10 : decode cX0_image 10 = .ok (.getfield 96, 3) := dk_180 0 96 (dk_at dksX0_image_0 10 rfl rfl)
theorem dX0_image_13 : decode cX0_image 13 = .ok (.iload_n 1, 1) := dk_27 (dk_at dksX0_image_0 13 rfl rfl)
theorem dX0_image_14 : decode cX0_image 14 = .ok (.aaload, 1) := dk_50 (dk_at dksX0_image_0 14 rfl rfl)
theorem dX0_image_15 : decode cX0_image 15 = .ok (.aload_n 0, 1) := dk_42 (dk_at dksX0_image_0 15 rfl rfl)
theorem dX0_image_16 : decode cX0_image 16 = .ok (.getfield 31, 3) := dk_180 0 31 (dk_at dksX0_image_0 16 rfl rfl)
theorem dX0_image_19 : decode cX0_image 19 = .ok (.invokevirtual 216, 3) := dk_182 0 216 (dk_at dksX0_image_0 19 rfl rfl)
theorem dX0_image_22 : decode cX0_image 22 = .ok (.pop, 1) := dk_87 (dk_at dksX0_image_0 22 rfl rfl)
theorem dX0_image_23 : decode cX0_image 23 = .ok (.aload_n 0, 1) := dk_42 (dk_at dksX0_image_0 23 rfl rfl)
theorem dX0_image_24 : decode cX0_image 24 = .ok (.getfield 99, 3) := dk_180 0 99 (dk_at dksX0_image_1 0 rfl rfl)
theorem dX0_image_27 : decode cX0_image 27 = .ok (.iload_n 1, 1) := dk_27 (dk_at dksX0_image_1 3 rfl rfl)
theorem dX0_image_28 : decode cX0_image 28 = .ok (.iconst 1, 1) := dk_4 (dk_at dksX0_image_1 4 rfl rfl)
theorem dX0_image_29 : decode cX0_image 29 = .ok (.bastore, 1) := dk_84 (dk_at dksX0_image_1 5 rfl rfl)
theorem dX0_image_30 : decode cX0_image 30 = .ok (.aload_n 0, 1) := dk_42 (dk_at dksX0_image_1 6 rfl rfl)
theorem dX0_image_31 : decode cX0_image 31 = .ok (.getfield 31, 3) := dk_180 0 31 (dk_at dksX0_image_1 7 rfl rfl)
theorem dX0_image_34 : decode cX0_image 34 = .ok (.getfield 154, 3) := dk_180 0 154 (dk_at dksX0_image_1 10 rfl rfl)
theorem dX0_image_37 : decode cX0_image 37 = .ok (.ireturn, 1) := dk_172 (dk_at dksX0_image_1 13 rfl rfl)
abbrev cX0_isBox : ByteArray := prog_1_method_82_code
def yX0_isBox : MethodName := ⟨RX0, "isBox", "(I)Z"⟩
def dkwX0_isBox_0 : List UInt8 := [26, 3, 5, 184, 0, 150, 172]
abbrev dktX0_isBox_0 : List UInt8 := dkwX0_isBox_0 ++ []
theorem dksX0_isBox_0 : cX0_isBox.data.toList.drop 0 = dktX0_isBox_0 := by decide +kernel
theorem dX0_isBox_0 : decode cX0_isBox 0 = .ok (.iload_n 0, 1) := dk_26 (dk_at dksX0_isBox_0 0 rfl rfl)
theorem dX0_isBox_1 : decode cX0_isBox 1 = .ok (.iconst 0, 1) := dk_3 (dk_at dksX0_isBox_0 1 rfl rfl)
theorem dX0_isBox_2 : decode cX0_isBox 2 = .ok (.iconst 2, 1) := dk_5 (dk_at dksX0_isBox_0 2 rfl rfl)
theorem dX0_isBox_3 : decode cX0_isBox 3 = .ok (.invokestatic 150, 3) := dk_184 0 150 (dk_at dksX0_isBox_0 3 rfl rfl)
theorem dX0_isBox_6 : decode cX0_isBox 6 = .ok (.ireturn, 1) := dk_172 (dk_at dksX0_isBox_0 6 rfl rfl)
abbrev cX0_back : ByteArray := prog_1_method_84_code
def yX0_back : MethodName := ⟨RX0, "back", "(I)I"⟩
def dkwX0_back_2 : List UInt8 := [180, 0, 154, 172]
abbrev dktX0_back_2 : List UInt8 := dkwX0_back_2 ++ []
def dkwX0_back_1 : List UInt8 := [180, 0, 96, 27, 50, 182, 0, 216, 87, 42, 3, 181, 0, 115, 42, 3, 181, 0, 118, 42, 180, 0, 31]
abbrev dktX0_back_1 : List UInt8 := dkwX0_back_1 ++ dktX0_back_2
def dkwX0_back_0 : List UInt8 := [27, 184, 1, 136, 153, 0, 12, 42, 180, 0, 99, 27, 51, 154, 0, 5, 2, 172, 42, 180, 0, 31, 42]
abbrev dktX0_back_0 : List UInt8 := dkwX0_back_0 ++ dktX0_back_1
theorem dksX0_back_0 : cX0_back.data.toList.drop 0 = dktX0_back_0 := by decide +kernel
theorem dksX0_back_1 : cX0_back.data.toList.drop 23 = dktX0_back_1 := dk_seg dksX0_back_0 23 rfl rfl
theorem dksX0_back_2 : cX0_back.data.toList.drop 46 = dktX0_back_2 := dk_seg dksX0_back_1 23 rfl rfl
theorem dX0_back_0 : decode cX0_back 0 = .ok (.iload_n 1, 1) := dk_27 (dk_at dksX0_back_0 0 rfl rfl)
theorem dX0_back_1 : decode cX0_back 1 = .ok (.invokestatic 392, 3) := dk_184 1 136 (dk_at dksX0_back_0 1 rfl rfl)
theorem dX0_back_4 : decode cX0_back 4 = .ok (.ifCond .eq 12, 3) := dk_153 0 12 (dk_at dksX0_back_0 4 rfl rfl)
theorem dX0_back_7 : decode cX0_back 7 = .ok (.aload_n 0, 1) := dk_42 (dk_at dksX0_back_0 7 rfl rfl)
theorem dX0_back_8 : decode cX0_back 8 = .ok (.getfield 99, 3) := dk_180 0 99 (dk_at dksX0_back_0 8 rfl rfl)
theorem dX0_back_11 : decode cX0_back 11 = .ok (.iload_n 1, 1) := dk_27 (dk_at dksX0_back_0 11 rfl rfl)
theorem dX0_back_12 : decode cX0_back 12 = .ok (.baload, 1) := dk_51 (dk_at dksX0_back_0 12 rfl rfl)
theorem dX0_back_13 : decode cX0_back 13 = .ok (.ifCond .ne 5, 3) := dk_154 0 5 (dk_at dksX0_back_0 13 rfl rfl)
theorem dX0_back_16 : decode cX0_back 16 = .ok (.iconst (-1), 1) := dk_2 (dk_at dksX0_back_0 16 rfl rfl)
theorem dX0_back_17 : decode cX0_back 17 = .ok (.ireturn, 1) := dk_172 (dk_at dksX0_back_0 17 rfl rfl)
theorem dX0_back_18 : decode cX0_back 18 = .ok (.aload_n 0, 1) := dk_42 (dk_at dksX0_back_0 18 rfl rfl)
theorem dX0_back_19 : decode cX0_back 19 = .ok (.getfield 31, 3) := dk_180 0 31 (dk_at dksX0_back_0 19 rfl rfl)
theorem dX0_back_22 : decode cX0_back 22 = .ok (.aload_n 0, 1) := dk_42 (dk_at dksX0_back_0 22 rfl rfl)
theorem dX0_back_23 : decode cX0_back 23 = .ok (.getfield 96, 3) := dk_180 0 96 (dk_at dksX0_back_1 0 rfl rfl)
theorem dX0_back_26 : decode cX0_back 26 = .ok (.iload_n 1, 1) := dk_27 (dk_at dksX0_back_1 3 rfl rfl)
theorem dX0_back_27 : decode cX0_back 27 = .ok (.aaload, 1) := dk_50 (dk_at dksX0_back_1 4 rfl rfl)
theorem dX0_back_28 : decode cX0_back 28 = .ok (.invokevirtual 216, 3) := dk_182 0 216 (dk_at dksX0_back_1 5 rfl rfl)
theorem dX0_back_31 : decode cX0_back 31 = .ok (.pop, 1) := dk_87 (dk_at dksX0_back_1 8 rfl rfl)
theorem dX0_back_32 : decode cX0_back 32 = .ok (.aload_n 0, 1) := dk_42 (dk_at dksX0_back_1 9 rfl rfl)
theorem dX0_back_33 : decode cX0_back 33 = .ok (.iconst 0, 1) := dk_3 (dk_at dksX0_back_1 10 rfl rfl)
theorem dX0_back_34 : decode cX0_back 34 = .ok (.putfield 115, 3) := dk_181 0 115 (dk_at dksX0_back_1 11 rfl rfl)
theorem dX0_back_37 : decode cX0_back 37 = .ok (.aload_n 0, 1) := dk_42 (dk_at dksX0_back_1 14 rfl rfl)
theorem dX0_back_38 : decode cX0_back 38 = .ok (.iconst 0, 1) := dk_3 (dk_at dksX0_back_1 15 rfl rfl)
theorem dX0_back_39 : decode cX0_back 39 = .ok (.putfield 118, 3) := dk_181 0 118 (dk_at dksX0_back_1 16 rfl rfl)
theorem dX0_back_42 : decode cX0_back 42 = .ok (.aload_n 0, 1) := dk_42 (dk_at dksX0_back_1 19 rfl rfl)
theorem dX0_back_43 : decode cX0_back 43 = .ok (.getfield 31, 3) := dk_180 0 31 (dk_at dksX0_back_1 20 rfl rfl)
theorem dX0_back_46 : decode cX0_back 46 = .ok (.getfield 154, 3) := dk_180 0 154 (dk_at dksX0_back_2 0 rfl rfl)
theorem dX0_back_49 : decode cX0_back 49 = .ok (.ireturn, 1) := dk_172 (dk_at dksX0_back_2 3 rfl rfl)
abbrev cX0_about : ByteArray := prog_1_method_85_code
def yX0_about : MethodName := ⟨RX0, "about", "(I)I"⟩
def dkwX0_about_6 : List UInt8 := [2, 172]
abbrev dktX0_about_6 : List UInt8 := dkwX0_about_6 ++ []
def dkwX0_about_5 : List UInt8 := [172, 42, 180, 1, 30, 172, 42, 180, 0, 103, 172, 42, 180, 0, 20, 180, 1, 139, 172, 42, 180, 0, 121, 172]
abbrev dktX0_about_5 : List UInt8 := dkwX0_about_5 ++ dktX0_about_6
def dkwX0_about_4 : List UInt8 := [180, 0, 31, 180, 0, 226, 172, 42, 180, 0, 115, 172, 42, 180, 0, 118, 172, 42, 180, 0, 74, 182, 0, 144]
abbrev dktX0_about_4 : List UInt8 := dkwX0_about_4 ++ dktX0_about_5
def dkwX0_about_3 : List UInt8 := [180, 0, 31, 180, 0, 180, 172, 42, 180, 0, 31, 180, 0, 220, 172, 42, 180, 0, 31, 180, 0, 197, 172, 42]
abbrev dktX0_about_3 : List UInt8 := dkwX0_about_3 ++ dktX0_about_4
def dkwX0_about_2 : List UInt8 := [42, 182, 0, 138, 172, 42, 180, 0, 20, 180, 0, 147, 172, 42, 180, 0, 31, 180, 0, 154, 172, 42]
abbrev dktX0_about_2 : List UInt8 := dkwX0_about_2 ++ dktX0_about_3
def dkwX0_about_1 : List UInt8 := [170, 0, 0, 0, 0, 0, 165, 0, 0, 0, 0, 0, 0, 0, 13, 0, 0, 0, 71, 0, 0, 0, 76, 0, 0, 0, 84, 0, 0, 0, 92, 0, 0, 0, 100, 0, 0, 0, 108, 0, 0, 0, 116, 0, 0, 0, 124, 0, 0, 0, 129, 0, 0, 0, 134, 0, 0, 0, 142, 0, 0, 0, 147, 0, 0, 0, 152, 0, 0, 0, 160]
abbrev dktX0_about_1 : List UInt8 := dkwX0_about_1 ++ dktX0_about_2
def dkwX0_about_0 : List UInt8 := [27]
abbrev dktX0_about_0 : List UInt8 := dkwX0_about_0 ++ dktX0_about_1
theorem dksX0_about_0 : cX0_about.data.toList.drop 0 = dktX0_about_0 := by decide +kernel
theorem dksX0_about_1 : cX0_about.data.toList.drop 1 = dktX0_about_1 := dk_seg dksX0_about_0 1 rfl rfl
theorem dksX0_about_2 : cX0_about.data.toList.drop 72 = dktX0_about_2 := dk_seg dksX0_about_1 71 rfl rfl
theorem dksX0_about_3 : cX0_about.data.toList.drop 94 = dktX0_about_3 := dk_seg dksX0_about_2 22 rfl rfl
theorem dksX0_about_4 : cX0_about.data.toList.drop 118 = dktX0_about_4 := dk_seg dksX0_about_3 24 rfl rfl
theorem dksX0_about_5 : cX0_about.data.toList.drop 142 = dktX0_about_5 := dk_seg dksX0_about_4 24 rfl rfl
theorem dksX0_about_6 : cX0_about.data.toList.drop 166 = dktX0_about_6 := dk_seg dksX0_about_5 24 rfl rfl
theorem dX0_about_0 : decode cX0_about 0 = .ok (.iload_n 1, 1) := dk_27 (dk_at dksX0_about_0 0 rfl rfl)
theorem dX0_about_1 : decode cX0_about 1 = .ok (.tableswitch 165 0 13 #[71, 76, 84, 92, 100, 108, 116, 124, 129, 134, 142, 147, 152, 160], 71) := by decide +kernel
theorem dX0_about_72 : decode cX0_about 72 = .ok (.aload_n 0, 1) := dk_42 (dk_at dksX0_about_2 0 rfl rfl)
theorem dX0_about_73 : decode cX0_about 73 = .ok (.invokevirtual 138, 3) := dk_182 0 138 (dk_at dksX0_about_2 1 rfl rfl)
theorem dX0_about_76 : decode cX0_about 76 = .ok (.ireturn, 1) := dk_172 (dk_at dksX0_about_2 4 rfl rfl)
theorem dX0_about_77 : decode cX0_about 77 = .ok (.aload_n 0, 1) := dk_42 (dk_at dksX0_about_2 5 rfl rfl)
theorem dX0_about_78 : decode cX0_about 78 = .ok (.getfield 20, 3) := dk_180 0 20 (dk_at dksX0_about_2 6 rfl rfl)
theorem dX0_about_81 : decode cX0_about 81 = .ok (.getfield 147, 3) := dk_180 0 147 (dk_at dksX0_about_2 9 rfl rfl)
theorem dX0_about_84 : decode cX0_about 84 = .ok (.ireturn, 1) := dk_172 (dk_at dksX0_about_2 12 rfl rfl)
theorem dX0_about_85 : decode cX0_about 85 = .ok (.aload_n 0, 1) := dk_42 (dk_at dksX0_about_2 13 rfl rfl)
theorem dX0_about_86 : decode cX0_about 86 = .ok (.getfield 31, 3) := dk_180 0 31 (dk_at dksX0_about_2 14 rfl rfl)
theorem dX0_about_89 : decode cX0_about 89 = .ok (.getfield 154, 3) := dk_180 0 154 (dk_at dksX0_about_2 17 rfl rfl)
theorem dX0_about_92 : decode cX0_about 92 = .ok (.ireturn, 1) := dk_172 (dk_at dksX0_about_2 20 rfl rfl)
theorem dX0_about_93 : decode cX0_about 93 = .ok (.aload_n 0, 1) := dk_42 (dk_at dksX0_about_2 21 rfl rfl)
theorem dX0_about_94 : decode cX0_about 94 = .ok (.getfield 31, 3) := dk_180 0 31 (dk_at dksX0_about_3 0 rfl rfl)
theorem dX0_about_97 : decode cX0_about 97 = .ok (.getfield 180, 3) := dk_180 0 180 (dk_at dksX0_about_3 3 rfl rfl)
theorem dX0_about_100 : decode cX0_about 100 = .ok (.ireturn, 1) := dk_172 (dk_at dksX0_about_3 6 rfl rfl)
theorem dX0_about_101 : decode cX0_about 101 = .ok (.aload_n 0, 1) := dk_42 (dk_at dksX0_about_3 7 rfl rfl)
theorem dX0_about_102 : decode cX0_about 102 = .ok (.getfield 31, 3) := dk_180 0 31 (dk_at dksX0_about_3 8 rfl rfl)
theorem dX0_about_105 : decode cX0_about 105 = .ok (.getfield 220, 3) := dk_180 0 220 (dk_at dksX0_about_3 11 rfl rfl)
theorem dX0_about_108 : decode cX0_about 108 = .ok (.ireturn, 1) := dk_172 (dk_at dksX0_about_3 14 rfl rfl)
theorem dX0_about_109 : decode cX0_about 109 = .ok (.aload_n 0, 1) := dk_42 (dk_at dksX0_about_3 15 rfl rfl)
theorem dX0_about_110 : decode cX0_about 110 = .ok (.getfield 31, 3) := dk_180 0 31 (dk_at dksX0_about_3 16 rfl rfl)
theorem dX0_about_113 : decode cX0_about 113 = .ok (.getfield 197, 3) := dk_180 0 197 (dk_at dksX0_about_3 19 rfl rfl)
theorem dX0_about_116 : decode cX0_about 116 = .ok (.ireturn, 1) := dk_172 (dk_at dksX0_about_3 22 rfl rfl)
theorem dX0_about_117 : decode cX0_about 117 = .ok (.aload_n 0, 1) := dk_42 (dk_at dksX0_about_3 23 rfl rfl)
theorem dX0_about_118 : decode cX0_about 118 = .ok (.getfield 31, 3) := dk_180 0 31 (dk_at dksX0_about_4 0 rfl rfl)
theorem dX0_about_121 : decode cX0_about 121 = .ok (.getfield 226, 3) := dk_180 0 226 (dk_at dksX0_about_4 3 rfl rfl)
theorem dX0_about_124 : decode cX0_about 124 = .ok (.ireturn, 1) := dk_172 (dk_at dksX0_about_4 6 rfl rfl)
theorem dX0_about_125 : decode cX0_about 125 = .ok (.aload_n 0, 1) := dk_42 (dk_at dksX0_about_4 7 rfl rfl)
theorem dX0_about_126 : decode cX0_about 126 = .ok (.getfield 115, 3) := dk_180 0 115 (dk_at dksX0_about_4 8 rfl rfl)
theorem dX0_about_129 : decode cX0_about 129 = .ok (.ireturn, 1) := dk_172 (dk_at dksX0_about_4 11 rfl rfl)
theorem dX0_about_130 : decode cX0_about 130 = .ok (.aload_n 0, 1) := dk_42 (dk_at dksX0_about_4 12 rfl rfl)
theorem dX0_about_131 : decode cX0_about 131 = .ok (.getfield 118, 3) := dk_180 0 118 (dk_at dksX0_about_4 13 rfl rfl)
theorem dX0_about_134 : decode cX0_about 134 = .ok (.ireturn, 1) := dk_172 (dk_at dksX0_about_4 16 rfl rfl)
theorem dX0_about_135 : decode cX0_about 135 = .ok (.aload_n 0, 1) := dk_42 (dk_at dksX0_about_4 17 rfl rfl)
theorem dX0_about_136 : decode cX0_about 136 = .ok (.getfield 74, 3) := dk_180 0 74 (dk_at dksX0_about_4 18 rfl rfl)
theorem dX0_about_139 : decode cX0_about 139 = .ok (.invokevirtual 144, 3) := dk_182 0 144 (dk_at dksX0_about_4 21 rfl rfl)
theorem dX0_about_142 : decode cX0_about 142 = .ok (.ireturn, 1) := dk_172 (dk_at dksX0_about_5 0 rfl rfl)
theorem dX0_about_143 : decode cX0_about 143 = .ok (.aload_n 0, 1) := dk_42 (dk_at dksX0_about_5 1 rfl rfl)
theorem dX0_about_144 : decode cX0_about 144 = .ok (.getfield 286, 3) := dk_180 1 30 (dk_at dksX0_about_5 2 rfl rfl)
theorem dX0_about_147 : decode cX0_about 147 = .ok (.ireturn, 1) := dk_172 (dk_at dksX0_about_5 5 rfl rfl)
theorem dX0_about_148 : decode cX0_about 148 = .ok (.aload_n 0, 1) := dk_42 (dk_at dksX0_about_5 6 rfl rfl)
theorem dX0_about_149 : decode cX0_about 149 = .ok (.getfield 103, 3) := dk_180 0 103 (dk_at dksX0_about_5 7 rfl rfl)
theorem dX0_about_152 : decode cX0_about 152 = .ok (.ireturn, 1) := dk_172 (dk_at dksX0_about_5 10 rfl rfl)
theorem dX0_about_153 : decode cX0_about 153 = .ok (.aload_n 0, 1) := dk_42 (dk_at dksX0_about_5 11 rfl rfl)
theorem dX0_about_154 : decode cX0_about 154 = .ok (.getfield 20, 3) := dk_180 0 20 (dk_at dksX0_about_5 12 rfl rfl)
theorem dX0_about_157 : decode cX0_about 157 = .ok (.getfield 395, 3) := dk_180 1 139 (dk_at dksX0_about_5 15 rfl rfl)
theorem dX0_about_160 : decode cX0_about 160 = .ok (.ireturn, 1) := dk_172 (dk_at dksX0_about_5 18 rfl rfl)
theorem dX0_about_161 : decode cX0_about 161 = .ok (.aload_n 0, 1) := dk_42 (dk_at dksX0_about_5 19 rfl rfl)
theorem dX0_about_162 : decode cX0_about 162 = .ok (.getfield 121, 3) := dk_180 0 121 (dk_at dksX0_about_5 20 rfl rfl)
theorem dX0_about_165 : decode cX0_about 165 = .ok (.ireturn, 1) := dk_172 (dk_at dksX0_about_5 23 rfl rfl)
theorem dX0_about_166 : decode cX0_about 166 = .ok (.iconst (-1), 1) := dk_2 (dk_at dksX0_about_6 0 rfl rfl)
theorem dX0_about_167 : decode cX0_about 167 = .ok (.ireturn, 1) := dk_172 (dk_at dksX0_about_6 1 rfl rfl)
