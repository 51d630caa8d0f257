set_option maxRecDepth 100000
abbrev cX1_ring : ByteArray := prog_1_method_8_code
def yX1_ring : MethodName := ⟨RX1, "ring", "(I)I"⟩
def dkwX1_ring_4 : List UInt8 := [181, 0, 64, 42, 187, 0, 61, 89, 183, 0, 63, 181, 0, 68, 42, 1, 181, 0, 98, 3, 172]
abbrev dktX1_ring_4 : List UInt8 := dkwX1_ring_4 ++ []
def dkwX1_ring_3 : List UInt8 := [79, 45, 180, 0, 92, 172, 42, 44, 180, 0, 95, 181, 0, 40, 42, 187, 0, 61, 89, 183, 0, 63]
abbrev dktX1_ring_3 : List UInt8 := dkwX1_ring_3 ++ dktX1_ring_4
def dkwX1_ring_2 : List UInt8 := [181, 0, 31, 167, 0, 27, 78, 42, 44, 180, 0, 89, 181, 0, 54, 42, 180, 0, 58, 3, 92, 46, 4, 96]
abbrev dktX1_ring_2 : List UInt8 := dkwX1_ring_2 ++ dktX1_ring_3
def dkwX1_ring_1 : List UInt8 := [181, 0, 71, 42, 2, 181, 0, 54, 187, 0, 78, 89, 42, 27, 183, 0, 80, 77, 42, 44, 182, 0, 83]
abbrev dktX1_ring_1 : List UInt8 := dkwX1_ring_1 ++ dktX1_ring_2
def dkwX1_ring_0 : List UInt8 := [27, 155, 0, 15, 27, 42, 180, 0, 71, 163, 0, 7, 4, 167, 0, 4, 3, 184, 0, 74, 42, 3]
abbrev dktX1_ring_0 : List UInt8 := dkwX1_ring_0 ++ dktX1_ring_1
theorem dksX1_ring_0 : cX1_ring.data.toList.drop 0 = dktX1_ring_0 := by decide +kernel
theorem dksX1_ring_1 : cX1_ring.data.toList.drop 22 = dktX1_ring_1 := dk_seg dksX1_ring_0 22 rfl rfl
theorem dksX1_ring_2 : cX1_ring.data.toList.drop 45 = dktX1_ring_2 := dk_seg dksX1_ring_1 23 rfl rfl
theorem dksX1_ring_3 : cX1_ring.data.toList.drop 69 = dktX1_ring_3 := dk_seg dksX1_ring_2 24 rfl rfl
theorem dksX1_ring_4 : cX1_ring.data.toList.drop 91 = dktX1_ring_4 := dk_seg dksX1_ring_3 22 rfl rfl
theorem dX1_ring_0 : decode cX1_ring 0 = .ok (.iload_n 1, 1) := dk_27 (dk_at dksX1_ring_0 0 rfl rfl)
theorem dX1_ring_1 : decode cX1_ring 1 = .ok (.ifCond .lt 15, 3) := dk_155 0 15 (dk_at dksX1_ring_0 1 rfl rfl)
theorem dX1_ring_4 : decode cX1_ring 4 = .ok (.iload_n 1, 1) := dk_27 (dk_at dksX1_ring_0 4 rfl rfl)
theorem dX1_ring_5 : decode cX1_ring 5 = .ok (.aload_n 0, 1) := dk_42 (dk_at dksX1_ring_0 5 rfl rfl)
theorem dX1_ring_6 : decode cX1_ring 6 = .ok (.getfield 71, 3) := dk_180 0 71 (dk_at dksX1_ring_0 6 rfl rfl)
theorem dX1_ring_9 : decode cX1_ring 9 = .ok (.if_icmp .gt 7, 3) := dk_163 0 7 (dk_at dksX1_ring_0 9 rfl rfl)
theorem dX1_ring_12 : decode cX1_ring 12 = .ok (.iconst 1, 1) := dk_4 (dk_at dksX1_ring_0 12 rfl rfl)
theorem dX1_ring_13 : decode cX1_ring 13 = .ok (.goto 4, 3) := dk_167 0 4 (dk_at dksX1_ring_0 13 rfl rfl)
theorem dX1_ring_16 : decode cX1_ring 16 = .ok (.iconst 0, 1) := dk_3 (dk_at dksX1_ring_0 16 rfl rfl)
theorem dX1_ring_17 : decode cX1_ring 17 = .ok (.invokestatic 74, 3) := dk_184 0 74 (dk_at dksX1_ring_0 17 rfl rfl)
theorem dX1_ring_20 : decode cX1_ring 20 = .ok (.aload_n 0, 1) := dk_42 (dk_at dksX1_ring_0 20 rfl rfl)
theorem dX1_ring_21 : decode cX1_ring 21 = .ok (.iconst 0, 1) := dk_3 (dk_at dksX1_ring_0 21 rfl rfl)
theorem dX1_ring_22 : decode cX1_ring 22 = .ok (.putfield 71, 3) := dk_181 0 71 (dk_at dksX1_ring_1 0 rfl rfl)
theorem dX1_ring_25 : decode cX1_ring 25 = .ok (.aload_n 0, 1) := dk_42 (dk_at dksX1_ring_1 3 rfl rfl)
theorem dX1_ring_26 : decode cX1_ring 26 = .ok (.iconst (-1), 1) := dk_2 (dk_at dksX1_ring_1 4 rfl rfl)
theorem dX1_ring_27 : decode cX1_ring 27 = .ok (.putfield 54, 3) := dk_181 0 54 (dk_at dksX1_ring_1 5 rfl rfl)
theorem dX1_ring_30 : decode cX1_ring 30 = .ok (.new 78, 3) := dk_187 0 78 (dk_at dksX1_ring_1 8 rfl rfl)
theorem dX1_ring_33 : decode cX1_ring 33 = .ok (.dup, 1) := dk_89 (dk_at dksX1_ring_1 11 rfl rfl)
theorem dX1_ring_34 : decode cX1_ring 34 = .ok (.aload_n 0, 1) := dk_42 (dk_at dksX1_ring_1 12 rfl rfl)
theorem dX1_ring_35 : decode cX1_ring 35 = .ok (.iload_n 1, 1) := dk_27 (dk_at dksX1_ring_1 13 rfl rfl)
theorem dX1_ring_36 : decode cX1_ring 36 = .ok (.invokespecial 80, 3) := dk_183 0 80 (dk_at dksX1_ring_1 14 rfl rfl)
theorem dX1_ring_39 : decode cX1_ring 39 = .ok (.astore_n 2, 1) := dk_77 (dk_at dksX1_ring_1 17 rfl rfl)
theorem dX1_ring_40 : decode cX1_ring 40 = .ok (.aload_n 0, 1) := dk_42 (dk_at dksX1_ring_1 18 rfl rfl)
theorem dX1_ring_41 : decode cX1_ring 41 = .ok (.aload_n 2, 1) := dk_44 (dk_at dksX1_ring_1 19 rfl rfl)
theorem dX1_ring_42 : decode cX1_ring 42 = .ok (.invokevirtual 83, 3) := dk_182 0 83 (dk_at dksX1_ring_1 20 rfl rfl)
theorem dX1_ring_45 : decode cX1_ring 45 = .ok (.putfield 31, 3) := dk_181 0 31 (dk_at dksX1_ring_2 0 rfl rfl)
theorem dX1_ring_48 : decode cX1_ring 48 = .ok (.goto 27, 3) := dk_167 0 27 (dk_at dksX1_ring_2 3 rfl rfl)
theorem dX1_ring_51 : decode cX1_ring 51 = .ok (.astore_n 3, 1) := dk_78 (dk_at dksX1_ring_2 6 rfl rfl)
theorem dX1_ring_52 : decode cX1_ring 52 = .ok (.aload_n 0, 1) := dk_42 (dk_at dksX1_ring_2 7 rfl rfl)
theorem dX1_ring_53 : decode cX1_ring 53 = .ok (.aload_n 2, 1) := dk_44 (dk_at dksX1_ring_2 8 rfl rfl)
theorem dX1_ring_54 : decode cX1_ring 54 = .ok (.getfield 89, 3) := dk_180 0 89 (dk_at dksX1_ring_2 9 rfl rfl)
theorem dX1_ring_57 : decode cX1_ring 57 = .ok (.putfield 54, 3) := dk_181 0 54 (dk_at dksX1_ring_2 12 rfl rfl)
theorem dX1_ring_60 : decode cX1_ring 60 = .ok (.aload_n 0, 1) := dk_42 (dk_at dksX1_ring_2 15 rfl rfl)
theorem dX1_ring_61 : decode cX1_ring 61 = .ok (.getfield 58, 3) := dk_180 0 58 (dk_at dksX1_ring_2 16 rfl rfl)
theorem dX1_ring_64 : decode cX1_ring 64 = .ok (.iconst 0, 1) := dk_3 (dk_at dksX1_ring_2 19 rfl rfl)
theorem dX1_ring_65 : decode cX1_ring 65 = .ok (.dup2, 1) := dk_92 (dk_at dksX1_ring_2 20 rfl rfl)
theorem dX1_ring_66 : decode cX1_ring 66 = .ok (.iaload, 1) := dk_46 (dk_at dksX1_ring_2 21 rfl rfl)
theorem dX1_ring_67 : decode cX1_ring 67 = .ok (.iconst 1, 1) := dk_4 (dk_at dksX1_ring_2 22 rfl rfl)
theorem dX1_ring_68 : decode cX1_ring 68 = .ok (.iadd, 1) := dk_96 (dk_at dksX1_ring_2 23 rfl rfl)
theorem dX1_ring_69 : decode cX1_ring 69 = .ok (.iastore, 1) := dk_79 (dk_at dksX1_ring_3 0 rfl rfl)
theorem dX1_ring_70 : decode cX1_ring 70 = .ok (.aload_n 3, 1) := dk_45 (dk_at dksX1_ring_3 1 rfl rfl)
theorem dX1_ring_71 : decode cX1_ring 71 = .ok (.getfield 92, 3) := dk_180 0 92 (dk_at dksX1_ring_3 2 rfl rfl)
theorem dX1_ring_74 : decode cX1_ring 74 = .ok (.ireturn, 1) := dk_172 (dk_at dksX1_ring_3 5 rfl rfl)
theorem dX1_ring_75 : decode cX1_ring 75 = .ok (.aload_n 0, 1) := dk_42 (dk_at dksX1_ring_3 6 rfl rfl)
theorem dX1_ring_76 : decode cX1_ring 76 = .ok (.aload_n 2, 1) := dk_44 (dk_at dksX1_ring_3 7 rfl rfl)
theorem dX1_ring_77 : decode cX1_ring 77 = .ok (.getfield 95, 3) := dk_180 0 95 (dk_at dksX1_ring_3 8 rfl rfl)
theorem dX1_ring_80 : decode cX1_ring 80 = .ok (.putfield 40, 3) := dk_181 0 40 (dk_at dksX1_ring_3 11 rfl rfl)
theorem dX1_ring_83 : decode cX1_ring 83 = .ok (.aload_n 0, 1) := dk_42 (dk_at dksX1_ring_3 14 rfl rfl)
theorem dX1_ring_84 : decode cX1_ring 84 = .ok (.new 61, 3) := dk_187 0 61 (dk_at dksX1_ring_3 15 rfl rfl)
theorem dX1_ring_87 : decode cX1_ring 87 = .ok (.dup, 1) := dk_89 (dk_at dksX1_ring_3 18 rfl rfl)
theorem dX1_ring_88 : decode cX1_ring 88 = .ok (.invokespecial 63, 3) := dk_183 0 63 (dk_at dksX1_ring_3 19 rfl rfl)
theorem dX1_ring_91 : decode cX1_ring 91 = .ok (.putfield 64, 3) := dk_181 0 64 (dk_at dksX1_ring_4 0 rfl rfl)
theorem dX1_ring_94 : decode cX1_ring 94 = .ok (.aload_n 0, 1) := dk_42 (dk_at dksX1_ring_4 3 rfl rfl)
theorem dX1_ring_95 : decode cX1_ring 95 = .ok (.new 61, 3) := dk_187 0 61 (dk_at dksX1_ring_4 4 rfl rfl)
theorem dX1_ring_98 : decode cX1_ring 98 = .ok (.dup, 1) := dk_89 (dk_at dksX1_ring_4 7 rfl rfl)
theorem dX1_ring_99 : decode cX1_ring 99 = .ok (.invokespecial 63, 3) := dk_183 0 63 (dk_at dksX1_ring_4 8 rfl rfl)
theorem dX1_ring_102 : decode cX1_ring 102 = .ok (.putfield 68, 3) := dk_181 0 68 (dk_at dksX1_ring_4 11 rfl rfl)
theorem dX1_ring_105 : decode cX1_ring 105 = .ok (.aload_n 0, 1) := dk_42 (dk_at dksX1_ring_4 14 rfl rfl)
theorem dX1_ring_106 : decode cX1_ring 106 = .ok (.aconst_null, 1) := dk_1 (dk_at dksX1_ring_4 15 rfl rfl)
theorem dX1_ring_107 : decode cX1_ring 107 = .ok (.putfield 98, 3) := dk_181 0 98 (dk_at dksX1_ring_4 16 rfl rfl)
theorem dX1_ring_110 : decode cX1_ring 110 = .ok (.iconst 0, 1) := dk_3 (dk_at dksX1_ring_4 19 rfl rfl)
theorem dX1_ring_111 : decode cX1_ring 111 = .ok (.ireturn, 1) := dk_172 (dk_at dksX1_ring_4 20 rfl rfl)
abbrev cX0_ring : ByteArray := method_3_code
def yX0_ring : MethodName := ⟨RX0, "ring", "(LHorizonSeam;I[J)I"⟩
def dkwX0_ring_0 : List UInt8 := [44, 3, 42, 27, 182, 0, 7, 133, 80, 167, 0, 6, 78, 4, 172, 3, 172]
abbrev dktX0_ring_0 : List UInt8 := dkwX0_ring_0 ++ []
theorem dksX0_ring_0 : cX0_ring.data.toList.drop 0 = dktX0_ring_0 := by decide +kernel
theorem dX0_ring_0 : decode cX0_ring 0 = .ok (.aload_n 2, 1) := dk_44 (dk_at dksX0_ring_0 0 rfl rfl)
theorem dX0_ring_1 : decode cX0_ring 1 = .ok (.iconst 0, 1) := dk_3 (dk_at dksX0_ring_0 1 rfl rfl)
theorem dX0_ring_2 : decode cX0_ring 2 = .ok (.aload_n 0, 1) := dk_42 (dk_at dksX0_ring_0 2 rfl rfl)
theorem dX0_ring_3 : decode cX0_ring 3 = .ok (.iload_n 1, 1) := dk_27 (dk_at dksX0_ring_0 3 rfl rfl)
theorem dX0_ring_4 : decode cX0_ring 4 = .ok (.invokevirtual 7, 3) := dk_182 0 7 (dk_at dksX0_ring_0 4 rfl rfl)
theorem dX0_ring_7 : decode cX0_ring 7 = .ok (.i2l, 1) := dk_133 (dk_at dksX0_ring_0 7 rfl rfl)
theorem dX0_ring_8 : decode cX0_ring 8 = .ok (.lastore, 1) := dk_80 (dk_at dksX0_ring_0 8 rfl rfl)
theorem dX0_ring_9 : decode cX0_ring 9 = .ok (.goto 6, 3) := dk_167 0 6 (dk_at dksX0_ring_0 9 rfl rfl)
theorem dX0_ring_12 : decode cX0_ring 12 = .ok (.astore_n 3, 1) := dk_78 (dk_at dksX0_ring_0 12 rfl rfl)
theorem dX0_ring_13 : decode cX0_ring 13 = .ok (.iconst 1, 1) := dk_4 (dk_at dksX0_ring_0 13 rfl rfl)
theorem dX0_ring_14 : decode cX0_ring 14 = .ok (.ireturn, 1) := dk_172 (dk_at dksX0_ring_0 14 rfl rfl)
theorem dX0_ring_15 : decode cX0_ring 15 = .ok (.iconst 0, 1) := dk_3 (dk_at dksX0_ring_0 15 rfl rfl)
theorem dX0_ring_16 : decode cX0_ring 16 = .ok (.ireturn, 1) := dk_172 (dk_at dksX0_ring_0 16 rfl rfl)
abbrev cX0_count : ByteArray := method_4_code
def yX0_count : MethodName := ⟨RX0, "count", "(LHorizonSeam;I[J)I"⟩
def dkwX0_count_0 : List UInt8 := [44, 3, 42, 27, 182, 0, 15, 133, 80, 167, 0, 6, 78, 4, 172, 3, 172]
abbrev dktX0_count_0 : List UInt8 := dkwX0_count_0 ++ []
theorem dksX0_count_0 : cX0_count.data.toList.drop 0 = dktX0_count_0 := by decide +kernel
theorem dX0_count_0 : decode cX0_count 0 = .ok (.aload_n 2, 1) := dk_44 (dk_at dksX0_count_0 0 rfl rfl)
theorem dX0_count_1 : decode cX0_count 1 = .ok (.iconst 0, 1) := dk_3 (dk_at dksX0_count_0 1 rfl rfl)
theorem dX0_count_2 : decode cX0_count 2 = .ok (.aload_n 0, 1) := dk_42 (dk_at dksX0_count_0 2 rfl rfl)
theorem dX0_count_3 : decode cX0_count 3 = .ok (.iload_n 1, 1) := dk_27 (dk_at dksX0_count_0 3 rfl rfl)
theorem dX0_count_4 : decode cX0_count 4 = .ok (.invokevirtual 15, 3) := dk_182 0 15 (dk_at dksX0_count_0 4 rfl rfl)
theorem dX0_count_7 : decode cX0_count 7 = .ok (.i2l, 1) := dk_133 (dk_at dksX0_count_0 7 rfl rfl)
theorem dX0_count_8 : decode cX0_count 8 = .ok (.lastore, 1) := dk_80 (dk_at dksX0_count_0 8 rfl rfl)
theorem dX0_count_9 : decode cX0_count 9 = .ok (.goto 6, 3) := dk_167 0 6 (dk_at dksX0_count_0 9 rfl rfl)
theorem dX0_count_12 : decode cX0_count 12 = .ok (.astore_n 3, 1) := dk_78 (dk_at dksX0_count_0 12 rfl rfl)
theorem dX0_count_13 : decode cX0_count 13 = .ok (.iconst 1, 1) := dk_4 (dk_at dksX0_count_0 13 rfl rfl)
theorem dX0_count_14 : decode cX0_count 14 = .ok (.ireturn, 1) := dk_172 (dk_at dksX0_count_0 14 rfl rfl)
theorem dX0_count_15 : decode cX0_count 15 = .ok (.iconst 0, 1) := dk_3 (dk_at dksX0_count_0 15 rfl rfl)
theorem dX0_count_16 : decode cX0_count 16 = .ok (.ireturn, 1) := dk_172 (dk_at dksX0_count_0 16 rfl rfl)
abbrev cX0_stretch : ByteArray := method_5_code
def yX0_stretch : MethodName := ⟨RX0, "stretch", "(LHorizonSeam;II[J)I"⟩
def dkwX0_stretch_0 : List UInt8 := [45, 3, 42, 27, 28, 182, 0, 20, 133, 80, 167, 0, 7, 58, 4, 4, 172, 3, 172]
abbrev dktX0_stretch_0 : List UInt8 := dkwX0_stretch_0 ++ []
theorem dksX0_stretch_0 : cX0_stretch.data.toList.drop 0 = dktX0_stretch_0 := by decide +kernel
theorem dX0_stretch_0 : decode cX0_stretch 0 = .ok (.aload_n 3, 1) := dk_45 (dk_at dksX0_stretch_0 0 rfl rfl)
theorem dX0_stretch_1 : decode cX0_stretch 1 = .ok (.iconst 0, 1) := dk_3 (dk_at dksX0_stretch_0 1 rfl rfl)
theorem dX0_stretch_2 : decode cX0_stretch 2 = .ok (.aload_n 0, 1) := dk_42 (dk_at dksX0_stretch_0 2 rfl rfl)
theorem dX0_stretch_3 : decode cX0_stretch 3 = .ok (.iload_n 1, 1) := dk_27 (dk_at dksX0_stretch_0 3 rfl rfl)
theorem dX0_stretch_4 : decode cX0_stretch 4 = .ok (.iload_n 2, 1) := dk_28 (dk_at dksX0_stretch_0 4 rfl rfl)
theorem dX0_stretch_5 : decode cX0_stretch 5 = .ok (.invokevirtual 20, 3) := dk_182 0 20 (dk_at dksX0_stretch_0 5 rfl rfl)
theorem dX0_stretch_8 : decode cX0_stretch 8 = .ok (.i2l, 1) := dk_133 (dk_at dksX0_stretch_0 8 rfl rfl)
theorem dX0_stretch_9 : decode cX0_stretch 9 = .ok (.lastore, 1) := dk_80 (dk_at dksX0_stretch_0 9 rfl rfl)
theorem dX0_stretch_10 : decode cX0_stretch 10 = .ok (.goto 7, 3) := dk_167 0 7 (dk_at dksX0_stretch_0 10 rfl rfl)
theorem dX0_stretch_13 : decode cX0_stretch 13 = .ok (.astore 4, 2) := dk_58 4 (dk_at dksX0_stretch_0 13 rfl rfl)
theorem dX0_stretch_15 : decode cX0_stretch 15 = .ok (.iconst 1, 1) := dk_4 (dk_at dksX0_stretch_0 15 rfl rfl)
theorem dX0_stretch_16 : decode cX0_stretch 16 = .ok (.ireturn, 1) := dk_172 (dk_at dksX0_stretch_0 16 rfl rfl)
theorem dX0_stretch_17 : decode cX0_stretch 17 = .ok (.iconst 0, 1) := dk_3 (dk_at dksX0_stretch_0 17 rfl rfl)
theorem dX0_stretch_18 : decode cX0_stretch 18 = .ok (.ireturn, 1) := dk_172 (dk_at dksX0_stretch_0 18 rfl rfl)
abbrev cX0_woman : ByteArray := method_6_code
def yX0_woman : MethodName := ⟨RX0, "woman", "(LHorizonSeam;II[J)I"⟩
def dkwX0_woman_0 : List UInt8 := [45, 3, 42, 27, 28, 182, 0, 24, 133, 80, 167, 0, 7, 58, 4, 4, 172, 3, 172]
abbrev dktX0_woman_0 : List UInt8 := dkwX0_woman_0 ++ []
theorem dksX0_woman_0 : cX0_woman.data.toList.drop 0 = dktX0_woman_0 := by decide +kernel
theorem dX0_woman_0 : decode cX0_woman 0 = .ok (.aload_n 3, 1) := dk_45 (dk_at dksX0_woman_0 0 rfl rfl)
theorem dX0_woman_1 : decode cX0_woman 1 = .ok (.iconst 0, 1) := dk_3 (dk_at dksX0_woman_0 1 rfl rfl)
theorem dX0_woman_2 : decode cX0_woman 2 = .ok (.aload_n 0, 1) := dk_42 (dk_at dksX0_woman_0 2 rfl rfl)
theorem dX0_woman_3 : decode cX0_woman 3 = .ok (.iload_n 1, 1) := dk_27 (dk_at dksX0_woman_0 3 rfl rfl)
theorem dX0_woman_4 : decode cX0_woman 4 = .ok (.iload_n 2, 1) := dk_28 (dk_at dksX0_woman_0 4 rfl rfl)
theorem dX0_woman_5 : decode cX0_woman 5 = .ok (.invokevirtual 24, 3) := dk_182 0 24 (dk_at dksX0_woman_0 5 rfl rfl)
theorem dX0_woman_8 : decode cX0_woman 8 = .ok (.i2l, 1) := dk_133 (dk_at dksX0_woman_0 8 rfl rfl)
theorem dX0_woman_9 : decode cX0_woman 9 = .ok (.lastore, 1) := dk_80 (dk_at dksX0_woman_0 9 rfl rfl)
theorem dX0_woman_10 : decode cX0_woman 10 = .ok (.goto 7, 3) := dk_167 0 7 (dk_at dksX0_woman_0 10 rfl rfl)
theorem dX0_woman_13 : decode cX0_woman 13 = .ok (.astore 4, 2) := dk_58 4 (dk_at dksX0_woman_0 13 rfl rfl)
theorem dX0_woman_15 : decode cX0_woman 15 = .ok (.iconst 1, 1) := dk_4 (dk_at dksX0_woman_0 15 rfl rfl)
theorem dX0_woman_16 : decode cX0_woman 16 = .ok (.ireturn, 1) := dk_172 (dk_at dksX0_woman_0 16 rfl rfl)
theorem dX0_woman_17 : decode cX0_woman 17 = .ok (.iconst 0, 1) := dk_3 (dk_at dksX0_woman_0 17 rfl rfl)
theorem dX0_woman_18 : decode cX0_woman 18 = .ok (.ireturn, 1) := dk_172 (dk_at dksX0_woman_0 18 rfl rfl)
abbrev cX0_mend : ByteArray := method_7_code
def yX0_mend : MethodName := ⟨RX0, "mend", "(LHorizonSeam;I[J)I"⟩
def dkwX0_mend_0 : List UInt8 := [44, 3, 42, 27, 182, 0, 27, 133, 80, 167, 0, 6, 78, 4, 172, 3, 172]
abbrev dktX0_mend_0 : List UInt8 := dkwX0_mend_0 ++ []
theorem dksX0_mend_0 : cX0_mend.data.toList.drop 0 = dktX0_mend_0 := by decide +kernel
theorem dX0_mend_0 : decode cX0_mend 0 = .ok (.aload_n 2, 1) := dk_44 (dk_at dksX0_mend_0 0 rfl rfl)
theorem dX0_mend_1 : decode cX0_mend 1 = .ok (.iconst 0, 1) := dk_3 (dk_at dksX0_mend_0 1 rfl rfl)
theorem dX0_mend_2 : decode cX0_mend 2 = .ok (.aload_n 0, 1) := dk_42 (dk_at dksX0_mend_0 2 rfl rfl)
theorem dX0_mend_3 : decode cX0_mend 3 = .ok (.iload_n 1, 1) := dk_27 (dk_at dksX0_mend_0 3 rfl rfl)
theorem dX0_mend_4 : decode cX0_mend 4 = .ok (.invokevirtual 27, 3) := dk_182 0 27 (dk_at dksX0_mend_0 4 rfl rfl)
theorem dX0_mend_7 : decode cX0_mend 7 = .ok (.i2l, 1) := dk_133 (dk_at dksX0_mend_0 7 rfl rfl)
theorem dX0_mend_8 : decode cX0_mend 8 = .ok (.lastore, 1) := dk_80 (dk_at dksX0_mend_0 8 rfl rfl)
theorem dX0_mend_9 : decode cX0_mend 9 = .ok (.goto 6, 3) := dk_167 0 6 (dk_at dksX0_mend_0 9 rfl rfl)
theorem dX0_mend_12 : decode cX0_mend 12 = .ok (.astore_n 3, 1) := dk_78 (dk_at dksX0_mend_0 12 rfl rfl)
theorem dX0_mend_13 : decode cX0_mend 13 = .ok (.iconst 1, 1) := dk_4 (dk_at dksX0_mend_0 13 rfl rfl)
theorem dX0_mend_14 : decode cX0_mend 14 = .ok (.ireturn, 1) := dk_172 (dk_at dksX0_mend_0 14 rfl rfl)
theorem dX0_mend_15 : decode cX0_mend 15 = .ok (.iconst 0, 1) := dk_3 (dk_at dksX0_mend_0 15 rfl rfl)
theorem dX0_mend_16 : decode cX0_mend 16 = .ok (.ireturn, 1) := dk_172 (dk_at dksX0_mend_0 16 rfl rfl)
abbrev cX0_go : ByteArray := method_8_code
def yX0_go : MethodName := ⟨RX0, "go", "(LHorizonSeam;II[J)I"⟩
def dkwX0_go_0 : List UInt8 := [45, 3, 42, 27, 28, 182, 0, 30, 133, 80, 167, 0, 7, 58, 4, 4, 172, 3, 172]
abbrev dktX0_go_0 : List UInt8 := dkwX0_go_0 ++ []
theorem dksX0_go_0 : cX0_go.data.toList.drop 0 = dktX0_go_0 := by decide +kernel
theorem dX0_go_0 : decode cX0_go 0 = .ok (.aload_n 3, 1) := dk_45 (dk_at dksX0_go_0 0 rfl rfl)
theorem dX0_go_1 : decode cX0_go 1 = .ok (.iconst 0, 1) := dk_3 (dk_at dksX0_go_0 1 rfl rfl)
theorem dX0_go_2 : decode cX0_go 2 = .ok (.aload_n 0, 1) := dk_42 (dk_at dksX0_go_0 2 rfl rfl)
theorem dX0_go_3 : decode cX0_go 3 = .ok (.iload_n 1, 1) := dk_27 (dk_at dksX0_go_0 3 rfl rfl)
theorem dX0_go_4 : decode cX0_go 4 = .ok (.iload_n 2, 1) := dk_28 (dk_at dksX0_go_0 4 rfl rfl)
theorem dX0_go_5 : decode cX0_go 5 = .ok (.invokevirtual 30, 3) := dk_182 0 30 (dk_at dksX0_go_0 5 rfl rfl)
theorem dX0_go_8 : decode cX0_go 8 = .ok (.i2l, 1) := dk_133 (dk_at dksX0_go_0 8 rfl rfl)
theorem dX0_go_9 : decode cX0_go 9 = .ok (.lastore, 1) := dk_80 (dk_at dksX0_go_0 9 rfl rfl)
theorem dX0_go_10 : decode cX0_go 10 = .ok (.goto 7, 3) := dk_167 0 7 (dk_at dksX0_go_0 10 rfl rfl)
theorem dX0_go_13 : decode cX0_go 13 = .ok (.astore 4, 2) := dk_58 4 (dk_at dksX0_go_0 13 rfl rfl)
theorem dX0_go_15 : decode cX0_go 15 = .ok (.iconst 1, 1) := dk_4 (dk_at dksX0_go_0 15 rfl rfl)
theorem dX0_go_16 : decode cX0_go 16 = .ok (.ireturn, 1) := dk_172 (dk_at dksX0_go_0 16 rfl rfl)
theorem dX0_go_17 : decode cX0_go 17 = .ok (.iconst 0, 1) := dk_3 (dk_at dksX0_go_0 17 rfl rfl)
theorem dX0_go_18 : decode cX0_go 18 = .ok (.ireturn, 1) := dk_172 (dk_at dksX0_go_0 18 rfl rfl)
abbrev cX0_stitch : ByteArray := method_9_code
def yX0_stitch : MethodName := ⟨RX0, "stitch", "(LHorizonSeam;II[J)I"⟩
def dkwX0_stitch_0 : List UInt8 := [45, 3, 42, 27, 28, 182, 0, 33, 133, 80, 167, 0, 7, 58, 4, 4, 172, 3, 172]
abbrev dktX0_stitch_0 : List UInt8 := dkwX0_stitch_0 ++ []
theorem dksX0_stitch_0 : cX0_stitch.data.toList.drop 0 = dktX0_stitch_0 := by decide +kernel
theorem dX0_stitch_0 : decode cX0_stitch 0 = .ok (.aload_n 3, 1) := dk_45 (dk_at dksX0_stitch_0 0 rfl rfl)
theorem dX0_stitch_1 : decode cX0_stitch 1 = .ok (.iconst 0, 1) := dk_3 (dk_at dksX0_stitch_0 1 rfl rfl)
theorem dX0_stitch_2 : decode cX0_stitch 2 = .ok (.aload_n 0, 1) := dk_42 (dk_at dksX0_stitch_0 2 rfl rfl)
theorem dX0_stitch_3 : decode cX0_stitch 3 = .ok (.iload_n 1, 1) := dk_27 (dk_at dksX0_stitch_0 3 rfl rfl)
theorem dX0_stitch_4 : decode cX0_stitch 4 = .ok (.iload_n 2, 1) := dk_28 (dk_at dksX0_stitch_0 4 rfl rfl)
theorem dX0_stitch_5 : decode cX0_stitch 5 = .ok (.invokevirtual 33, 3) := dk_182 0 33 (dk_at dksX0_stitch_0 5 rfl rfl)
theorem dX0_stitch_8 : decode cX0_stitch 8 = .ok (.i2l, 1) := dk_133 (dk_at dksX0_stitch_0 8 rfl rfl)
theorem dX0_stitch_9 : decode cX0_stitch 9 = .ok (.lastore, 1) := dk_80 (dk_at dksX0_stitch_0 9 rfl rfl)
theorem dX0_stitch_10 : decode cX0_stitch 10 = .ok (.goto 7, 3) := dk_167 0 7 (dk_at dksX0_stitch_0 10 rfl rfl)
theorem dX0_stitch_13 : decode cX0_stitch 13 = .ok (.astore 4, 2) := dk_58 4 (dk_at dksX0_stitch_0 13 rfl rfl)
theorem dX0_stitch_15 : decode cX0_stitch 15 = .ok (.iconst 1, 1) := dk_4 (dk_at dksX0_stitch_0 15 rfl rfl)
theorem dX0_stitch_16 : decode cX0_stitch 16 = .ok (.ireturn, 1) := dk_172 (dk_at dksX0_stitch_0 16 rfl rfl)
theorem dX0_stitch_17 : decode cX0_stitch 17 = .ok (.iconst 0, 1) := dk_3 (dk_at dksX0_stitch_0 17 rfl rfl)
theorem dX0_stitch_18 : decode cX0_stitch 18 = .ok (.ireturn, 1) := dk_172 (dk_at dksX0_stitch_0 18 rfl rfl)
abbrev cX0_thread : ByteArray := method_10_code
def yX0_thread : MethodName := ⟨RX0, "thread", "(LHorizonSeam;II[J)I"⟩
def dkwX0_thread_0 : List UInt8 := [45, 3, 42, 27, 28, 182, 0, 36, 133, 80, 167, 0, 7, 58, 4, 4, 172, 3, 172]
abbrev dktX0_thread_0 : List UInt8 := dkwX0_thread_0 ++ []
theorem dksX0_thread_0 : cX0_thread.data.toList.drop 0 = dktX0_thread_0 := by decide +kernel
theorem dX0_thread_0 : decode cX0_thread 0 = .ok (.aload_n 3, 1) := dk_45 (dk_at dksX0_thread_0 0 rfl rfl)
theorem dX0_thread_1 : decode cX0_thread 1 = .ok (.iconst 0, 1) := dk_3 (dk_at dksX0_thread_0 1 rfl rfl)
theorem dX0_thread_2 : decode cX0_thread 2 = .ok (.aload_n 0, 1) := dk_42 (dk_at dksX0_thread_0 2 rfl rfl)
theorem dX0_thread_3 : decode cX0_thread 3 = .ok (.iload_n 1, 1) := dk_27 (dk_at dksX0_thread_0 3 rfl rfl)
theorem dX0_thread_4 : decode cX0_thread 4 = .ok (.iload_n 2, 1) := dk_28 (dk_at dksX0_thread_0 4 rfl rfl)
theorem dX0_thread_5 : decode cX0_thread 5 = .ok (.invokevirtual 36, 3) := dk_182 0 36 (dk_at dksX0_thread_0 5 rfl rfl)
theorem dX0_thread_8 : decode cX0_thread 8 = .ok (.i2l, 1) := dk_133 (dk_at dksX0_thread_0 8 rfl rfl)
theorem dX0_thread_9 : decode cX0_thread 9 = .ok (.lastore, 1) := dk_80 (dk_at dksX0_thread_0 9 rfl rfl)
theorem dX0_thread_10 : decode cX0_thread 10 = .ok (.goto 7, 3) := dk_167 0 7 (dk_at dksX0_thread_0 10 rfl rfl)
theorem dX0_thread_13 : decode cX0_thread 13 = .ok (.astore 4, 2) := dk_58 4 (dk_at dksX0_thread_0 13 rfl rfl)
theorem dX0_thread_15 : decode cX0_thread 15 = .ok (.iconst 1, 1) := dk_4 (dk_at dksX0_thread_0 15 rfl rfl)
theorem dX0_thread_16 : decode cX0_thread 16 = .ok (.ireturn, 1) := dk_172 (dk_at dksX0_thread_0 16 rfl rfl)
theorem dX0_thread_17 : decode cX0_thread 17 = .ok (.iconst 0, 1) := dk_3 (dk_at dksX0_thread_0 17 rfl rfl)
theorem dX0_thread_18 : decode cX0_thread 18 = .ok (.ireturn, 1) := dk_172 (dk_at dksX0_thread_0 18 rfl rfl)
abbrev cX0_tear : ByteArray := method_11_code
def yX0_tear : MethodName := ⟨RX0, "tear", "(LHorizonSeam;II[J)I"⟩
def dkwX0_tear_0 : List UInt8 := [45, 3, 42, 27, 28, 182, 0, 39, 133, 80, 167, 0, 7, 58, 4, 4, 172, 3, 172]
abbrev dktX0_tear_0 : List UInt8 := dkwX0_tear_0 ++ []
theorem dksX0_tear_0 : cX0_tear.data.toList.drop 0 = dktX0_tear_0 := by decide +kernel
theorem dX0_tear_0 : decode cX0_tear 0 = .ok (.aload_n 3, 1) := dk_45 (dk_at dksX0_tear_0 0 rfl rfl)
theorem dX0_tear_1 : decode cX0_tear 1 = .ok (.iconst 0, 1) := dk_3 (dk_at dksX0_tear_0 1 rfl rfl)
theorem dX0_tear_2 : decode cX0_tear 2 = .ok (.aload_n 0, 1) := dk_42 (dk_at dksX0_tear_0 2 rfl rfl)
theorem dX0_tear_3 : decode cX0_tear 3 = .ok (.iload_n 1, 1) := dk_27 (dk_at dksX0_tear_0 3 rfl rfl)
theorem dX0_tear_4 : decode cX0_tear 4 = .ok (.iload_n 2, 1) := dk_28 (dk_at dksX0_tear_0 4 rfl rfl)
theorem dX0_tear_5 : decode cX0_tear 5 = .ok (.invokevirtual 39, 3) := dk_182 0 39 (dk_at dksX0_tear_0 5 rfl rfl)
theorem dX0_tear_8 : decode cX0_tear 8 = .ok (.i2l, 1) := dk_133 (dk_at dksX0_tear_0 8 rfl rfl)
theorem dX0_tear_9 : decode cX0_tear 9 = .ok (.lastore, 1) := dk_80 (dk_at dksX0_tear_0 9 rfl rfl)
theorem dX0_tear_10 : decode cX0_tear 10 = .ok (.goto 7, 3) := dk_167 0 7 (dk_at dksX0_tear_0 10 rfl rfl)
theorem dX0_tear_13 : decode cX0_tear 13 = .ok (.astore 4, 2) := dk_58 4 (dk_at dksX0_tear_0 13 rfl rfl)
theorem dX0_tear_15 : decode cX0_tear 15 = .ok (.iconst 1, 1) := dk_4 (dk_at dksX0_tear_0 15 rfl rfl)
theorem dX0_tear_16 : decode cX0_tear 16 = .ok (.ireturn, 1) := dk_172 (dk_at dksX0_tear_0 16 rfl rfl)
theorem dX0_tear_17 : decode cX0_tear 17 = .ok (.iconst 0, 1) := dk_3 (dk_at dksX0_tear_0 17 rfl rfl)
theorem dX0_tear_18 : decode cX0_tear 18 = .ok (.ireturn, 1) := dk_172 (dk_at dksX0_tear_0 18 rfl rfl)
abbrev cX0_then : ByteArray := method_12_code
def yX0_then : MethodName := ⟨RX0, "then", "(LHorizonSeam;III[J)I"⟩
def dkwX0_then_1 : List UInt8 := [172]
abbrev dktX0_then_1 : List UInt8 := dkwX0_then_1 ++ []
def dkwX0_then_0 : List UInt8 := [25, 4, 3, 42, 27, 28, 29, 182, 0, 42, 133, 80, 167, 0, 11, 58, 5, 4, 172, 58, 5, 5, 172, 3]
abbrev dktX0_then_0 : List UInt8 := dkwX0_then_0 ++ dktX0_then_1
theorem dksX0_then_0 : cX0_then.data.toList.drop 0 = dktX0_then_0 := by decide +kernel
theorem dksX0_then_1 : cX0_then.data.toList.drop 24 = dktX0_then_1 := dk_seg dksX0_then_0 24 rfl rfl
theorem dX0_then_0 : decode cX0_then 0 = .ok (.aload 4, 2) := dk_25 4 (dk_at dksX0_then_0 0 rfl rfl)
theorem dX0_then_2 : decode cX0_then 2 = .ok (.iconst 0, 1) := dk_3 (dk_at dksX0_then_0 2 rfl rfl)
theorem dX0_then_3 : decode cX0_then 3 = .ok (.aload_n 0, 1) := dk_42 (dk_at dksX0_then_0 3 rfl rfl)
theorem dX0_then_4 : decode cX0_then 4 = .ok (.iload_n 1, 1) := dk_27 (dk_at dksX0_then_0 4 rfl rfl)
theorem dX0_then_5 : decode cX0_then 5 = .ok (.iload_n 2, 1) := dk_28 (dk_at dksX0_then_0 5 rfl rfl)
theorem dX0_then_6 : decode cX0_then 6 = .ok (.iload_n 3, 1) := dk_29 (dk_at dksX0_then_0 6 rfl rfl)
theorem dX0_then_7 : decode cX0_then 7 = .ok (.invokevirtual 42, 3) := dk_182 0 42 (dk_at dksX0_then_0 7 rfl rfl)
theorem dX0_then_10 : decode cX0_then 10 = .ok (.i2l, 1) := dk_133 (dk_at dksX0_then_0 10 rfl rfl)
theorem dX0_then_11 : decode cX0_then 11 = .ok (.lastore, 1) := dk_80 (dk_at dksX0_then_0 11 rfl rfl)
theorem dX0_then_12 : decode cX0_then 12 = .ok (.goto 11, 3) := dk_167 0 11 (dk_at dksX0_then_0 12 rfl rfl)
theorem dX0_then_15 : decode cX0_then 15 = .ok (.astore 5, 2) := dk_58 5 (dk_at dksX0_then_0 15 rfl rfl)
theorem dX0_then_17 : decode cX0_then 17 = .ok (.iconst 1, 1) := dk_4 (dk_at dksX0_then_0 17 rfl rfl)
theorem dX0_then_18 : decode cX0_then 18 = .ok (.ireturn, 1) := dk_172 (dk_at dksX0_then_0 18 rfl rfl)
theorem dX0_then_19 : decode cX0_then 19 = .ok (.astore 5, 2) := dk_58 5 (dk_at dksX0_then_0 19 rfl rfl)
theorem dX0_then_21 : decode cX0_then 21 = .ok (.iconst 2, 1) := dk_5 (dk_at dksX0_then_0 21 rfl rfl)
theorem dX0_then_22 : decode cX0_then 22 = .ok (.ireturn, 1) := dk_172 (dk_at dksX0_then_0 22 rfl rfl)
theorem dX0_then_23 : decode cX0_then 23 = .ok (.iconst 0, 1) := dk_3 (dk_at dksX0_then_0 23 rfl rfl)
theorem dX0_then_24 : decode cX0_then 24 = .ok (.ireturn, 1) := dk_172 (dk_at dksX0_then_1 0 rfl rfl)
abbrev cX0_later : ByteArray := method_13_code
def yX0_later : MethodName := ⟨RX0, "later", "(LHorizonSeam;II[J)I"⟩
def dkwX0_later_0 : List UInt8 := [45, 3, 42, 27, 28, 182, 0, 46, 133, 80, 167, 0, 11, 58, 4, 4, 172, 58, 4, 5, 172, 3, 172]
abbrev dktX0_later_0 : List UInt8 := dkwX0_later_0 ++ []
theorem dksX0_later_0 : cX0_later.data.toList.drop 0 = dktX0_later_0 := by decide +kernel
theorem dX0_later_0 : decode cX0_later 0 = .ok (.aload_n 3, 1) := dk_45 (dk_at dksX0_later_0 0 rfl rfl)
theorem dX0_later_1 : decode cX0_later 1 = .ok (.iconst 0, 1) := dk_3 (dk_at dksX0_later_0 1 rfl rfl)
theorem dX0_later_2 : decode cX0_later 2 = .ok (.aload_n 0, 1) := dk_42 (dk_at dksX0_later_0 2 rfl rfl)
theorem dX0_later_3 : decode cX0_later 3 = .ok (.iload_n 1, 1) := dk_27 (dk_at dksX0_later_0 3 rfl rfl)
theorem dX0_later_4 : decode cX0_later 4 = .ok (.iload_n 2, 1) := dk_28 (dk_at dksX0_later_0 4 rfl rfl)
theorem dX0_later_5 : decode cX0_later 5 = .ok (.invokevirtual 46, 3) := dk_182 0 46 (dk_at dksX0_later_0 5 rfl rfl)
theorem dX0_later_8 : decode cX0_later 8 = .ok (.i2l, 1) := dk_133 (dk_at dksX0_later_0 8 rfl rfl)
theorem dX0_later_9 : decode cX0_later 9 = .ok (.lastore, 1) := dk_80 (dk_at dksX0_later_0 9 rfl rfl)
theorem dX0_later_10 : decode cX0_later 10 = .ok (.goto 11, 3) := dk_167 0 11 (dk_at dksX0_later_0 10 rfl rfl)
theorem dX0_later_13 : decode cX0_later 13 = .ok (.astore 4, 2) := dk_58 4 (dk_at dksX0_later_0 13 rfl rfl)
theorem dX0_later_15 : decode cX0_later 15 = .ok (.iconst 1, 1) := dk_4 (dk_at dksX0_later_0 15 rfl rfl)
theorem dX0_later_16 : decode cX0_later 16 = .ok (.ireturn, 1) := dk_172 (dk_at dksX0_later_0 16 rfl rfl)
theorem dX0_later_17 : decode cX0_later 17 = .ok (.astore 4, 2) := dk_58 4 (dk_at dksX0_later_0 17 rfl rfl)
theorem dX0_later_19 : decode cX0_later 19 = .ok (.iconst 2, 1) := dk_5 (dk_at dksX0_later_0 19 rfl rfl)
theorem dX0_later_20 : decode cX0_later 20 = .ok (.ireturn, 1) := dk_172 (dk_at dksX0_later_0 20 rfl rfl)
theorem dX0_later_21 : decode cX0_later 21 = .ok (.iconst 0, 1) := dk_3 (dk_at dksX0_later_0 21 rfl rfl)
theorem dX0_later_22 : decode cX0_later 22 = .ok (.ireturn, 1) := dk_172 (dk_at dksX0_later_0 22 rfl rfl)
abbrev cX0_opens : ByteArray := method_14_code
def yX0_opens : MethodName := ⟨RX0, "opens", "(LHorizonSeam;I[J)I"⟩
def dkwX0_opens_0 : List UInt8 := [44, 3, 42, 27, 182, 0, 49, 133, 80, 167, 0, 6, 78, 4, 172, 3, 172]
abbrev dktX0_opens_0 : List UInt8 := dkwX0_opens_0 ++ []
theorem dksX0_opens_0 : cX0_opens.data.toList.drop 0 = dktX0_opens_0 := by decide +kernel
theorem dX0_opens_0 : decode cX0_opens 0 = .ok (.aload_n 2, 1) := dk_44 (dk_at dksX0_opens_0 0 rfl rfl)
theorem dX0_opens_1 : decode cX0_opens 1 = .ok (.iconst 0, 1) := dk_3 (dk_at dksX0_opens_0 1 rfl rfl)
theorem dX0_opens_2 : decode cX0_opens 2 = .ok (.aload_n 0, 1) := dk_42 (dk_at dksX0_opens_0 2 rfl rfl)
theorem dX0_opens_3 : decode cX0_opens 3 = .ok (.iload_n 1, 1) := dk_27 (dk_at dksX0_opens_0 3 rfl rfl)
theorem dX0_opens_4 : decode cX0_opens 4 = .ok (.invokevirtual 49, 3) := dk_182 0 49 (dk_at dksX0_opens_0 4 rfl rfl)
theorem dX0_opens_7 : decode cX0_opens 7 = .ok (.i2l, 1) := dk_133 (dk_at dksX0_opens_0 7 rfl rfl)
theorem dX0_opens_8 : decode cX0_opens 8 = .ok (.lastore, 1) := dk_80 (dk_at dksX0_opens_0 8 rfl rfl)
theorem dX0_opens_9 : decode cX0_opens 9 = .ok (.goto 6, 3) := dk_167 0 6 (dk_at dksX0_opens_0 9 rfl rfl)
theorem dX0_opens_12 : decode cX0_opens 12 = .ok (.astore_n 3, 1) := dk_78 (dk_at dksX0_opens_0 12 rfl rfl)
theorem dX0_opens_13 : decode cX0_opens 13 = .ok (.iconst 1, 1) := dk_4 (dk_at dksX0_opens_0 13 rfl rfl)
theorem dX0_opens_14 : decode cX0_opens 14 = .ok (.ireturn, 1) := dk_172 (dk_at dksX0_opens_0 14 rfl rfl)
theorem dX0_opens_15 : decode cX0_opens 15 = .ok (.iconst 0, 1) := dk_3 (dk_at dksX0_opens_0 15 rfl rfl)
theorem dX0_opens_16 : decode cX0_opens 16 = .ok (.ireturn, 1) := dk_172 (dk_at dksX0_opens_0 16 rfl rfl)
abbrev cX0_where : ByteArray := method_15_code
def yX0_where : MethodName := ⟨RX0, "where", "(LHorizonSeam;III[J)I"⟩
def dkwX0_where_1 : List UInt8 := [172]
abbrev dktX0_where_1 : List UInt8 := dkwX0_where_1 ++ []
def dkwX0_where_0 : List UInt8 := [25, 4, 3, 42, 27, 28, 29, 182, 0, 52, 133, 80, 167, 0, 11, 58, 5, 4, 172, 58, 5, 5, 172, 3]
abbrev dktX0_where_0 : List UInt8 := dkwX0_where_0 ++ dktX0_where_1
theorem dksX0_where_0 : cX0_where.data.toList.drop 0 = dktX0_where_0 := by decide +kernel
theorem dksX0_where_1 : cX0_where.data.toList.drop 24 = dktX0_where_1 := dk_seg dksX0_where_0 24 rfl rfl
theorem dX0_where_0 : decode cX0_where 0 = .ok (.aload 4, 2) := dk_25 4 (dk_at dksX0_where_0 0 rfl rfl)
theorem dX0_where_2 : decode cX0_where 2 = .ok (.iconst 0, 1) := dk_3 (dk_at dksX0_where_0 2 rfl rfl)
theorem dX0_where_3 : decode cX0_where 3 = .ok (.aload_n 0, 1) := dk_42 (dk_at dksX0_where_0 3 rfl rfl)
theorem dX0_where_4 : decode cX0_where 4 = .ok (.iload_n 1, 1) := dk_27 (dk_at dksX0_where_0 4 rfl rfl)
theorem dX0_where_5 : decode cX0_where 5 = .ok (.iload_n 2, 1) := dk_28 (dk_at dksX0_where_0 5 rfl rfl)
theorem dX0_where_6 : decode cX0_where 6 = .ok (.iload_n 3, 1) := dk_29 (dk_at dksX0_where_0 6 rfl rfl)
theorem dX0_where_7 : decode cX0_where 7 = .ok (.invokevirtual 52, 3) := dk_182 0 52 (dk_at dksX0_where_0 7 rfl rfl)
theorem dX0_where_10 : decode cX0_where 10 = .ok (.i2l, 1) := dk_133 (dk_at dksX0_where_0 10 rfl rfl)
theorem dX0_where_11 : decode cX0_where 11 = .ok (.lastore, 1) := dk_80 (dk_at dksX0_where_0 11 rfl rfl)
theorem dX0_where_12 : decode cX0_where 12 = .ok (.goto 11, 3) := dk_167 0 11 (dk_at dksX0_where_0 12 rfl rfl)
theorem dX0_where_15 : decode cX0_where 15 = .ok (.astore 5, 2) := dk_58 5 (dk_at dksX0_where_0 15 rfl rfl)
theorem dX0_where_17 : decode cX0_where 17 = .ok (.iconst 1, 1) := dk_4 (dk_at dksX0_where_0 17 rfl rfl)
theorem dX0_where_18 : decode cX0_where 18 = .ok (.ireturn, 1) := dk_172 (dk_at dksX0_where_0 18 rfl rfl)
theorem dX0_where_19 : decode cX0_where 19 = .ok (.astore 5, 2) := dk_58 5 (dk_at dksX0_where_0 19 rfl rfl)
theorem dX0_where_21 : decode cX0_where 21 = .ok (.iconst 2, 1) := dk_5 (dk_at dksX0_where_0 21 rfl rfl)
theorem dX0_where_22 : decode cX0_where 22 = .ok (.ireturn, 1) := dk_172 (dk_at dksX0_where_0 22 rfl rfl)
theorem dX0_where_23 : decode cX0_where 23 = .ok (.iconst 0, 1) := dk_3 (dk_at dksX0_where_0 23 rfl rfl)
theorem dX0_where_24 : decode cX0_where 24 = .ok (.ireturn, 1) := dk_172 (dk_at dksX0_where_1 0 rfl rfl)
abbrev cX0_toHold : ByteArray := method_16_code
def yX0_toHold : MethodName := ⟨RX0, "toHold", "(LHorizonSeam;II[J)I"⟩
def dkwX0_toHold_0 : List UInt8 := [45, 3, 42, 27, 28, 182, 0, 55, 133, 80, 167, 0, 11, 58, 4, 4, 172, 58, 4, 5, 172, 3, 172]
abbrev dktX0_toHold_0 : List UInt8 := dkwX0_toHold_0 ++ []
theorem dksX0_toHold_0 : cX0_toHold.data.toList.drop 0 = dktX0_toHold_0 := by decide +kernel
theorem dX0_toHold_0 : decode cX0_toHold 0 = .ok (.aload_n 3, 1) := dk_45 (dk_at dksX0_toHold_0 0 rfl rfl)
theorem dX0_toHold_1 : decode cX0_toHold 1 = .ok (.iconst 0, 1) := dk_3 (dk_at dksX0_toHold_0 1 rfl rfl)
theorem dX0_toHold_2 : decode cX0_toHold 2 = .ok (.aload_n 0, 1) := dk_42 (dk_at dksX0_toHold_0 2 rfl rfl)
theorem dX0_toHold_3 : decode cX0_toHold 3 = .ok (.iload_n 1, 1) := dk_27 (dk_at dksX0_toHold_0 3 rfl rfl)
theorem dX0_toHold_4 : decode cX0_toHold 4 = .ok (.iload_n 2, 1) := dk_28 (dk_at dksX0_toHold_0 4 rfl rfl)
theorem dX0_toHold_5 : decode cX0_toHold 5 = .ok (.invokevirtual 55, 3) := dk_182 0 55 (dk_at dksX0_toHold_0 5 rfl rfl)
theorem dX0_toHold_8 : decode cX0_toHold 8 = .ok (.i2l, 1) := dk_133 (dk_at dksX0_toHold_0 8 rfl rfl)
theorem dX0_toHold_9 : decode cX0_toHold 9 = .ok (.lastore, 1) := dk_80 (dk_at dksX0_toHold_0 9 rfl rfl)
theorem dX0_toHold_10 : decode cX0_toHold 10 = .ok (.goto 11, 3) := dk_167 0 11 (dk_at dksX0_toHold_0 10 rfl rfl)
theorem dX0_toHold_13 : decode cX0_toHold 13 = .ok (.astore 4, 2) := dk_58 4 (dk_at dksX0_toHold_0 13 rfl rfl)
theorem dX0_toHold_15 : decode cX0_toHold 15 = .ok (.iconst 1, 1) := dk_4 (dk_at dksX0_toHold_0 15 rfl rfl)
theorem dX0_toHold_16 : decode cX0_toHold 16 = .ok (.ireturn, 1) := dk_172 (dk_at dksX0_toHold_0 16 rfl rfl)
theorem dX0_toHold_17 : decode cX0_toHold 17 = .ok (.astore 4, 2) := dk_58 4 (dk_at dksX0_toHold_0 17 rfl rfl)
theorem dX0_toHold_19 : decode cX0_toHold 19 = .ok (.iconst 2, 1) := dk_5 (dk_at dksX0_toHold_0 19 rfl rfl)
theorem dX0_toHold_20 : decode cX0_toHold 20 = .ok (.ireturn, 1) := dk_172 (dk_at dksX0_toHold_0 20 rfl rfl)
theorem dX0_toHold_21 : decode cX0_toHold 21 = .ok (.iconst 0, 1) := dk_3 (dk_at dksX0_toHold_0 21 rfl rfl)
theorem dX0_toHold_22 : decode cX0_toHold 22 = .ok (.ireturn, 1) := dk_172 (dk_at dksX0_toHold_0 22 rfl rfl)
abbrev cX0_toSend : ByteArray := method_17_code
def yX0_toSend : MethodName := ⟨RX0, "toSend", "(LHorizonSeam;III[J)I"⟩
def dkwX0_toSend_1 : List UInt8 := [172]
abbrev dktX0_toSend_1 : List UInt8 := dkwX0_toSend_1 ++ []
def dkwX0_toSend_0 : List UInt8 := [25, 4, 3, 42, 27, 28, 29, 182, 0, 58, 133, 80, 167, 0, 11, 58, 5, 4, 172, 58, 5, 5, 172, 3]
abbrev dktX0_toSend_0 : List UInt8 := dkwX0_toSend_0 ++ dktX0_toSend_1
theorem dksX0_toSend_0 : cX0_toSend.data.toList.drop 0 = dktX0_toSend_0 := by decide +kernel
theorem dksX0_toSend_1 : cX0_toSend.data.toList.drop 24 = dktX0_toSend_1 := dk_seg dksX0_toSend_0 24 rfl rfl
theorem dX0_toSend_0 : decode cX0_toSend 0 = .ok (.aload 4, 2) := dk_25 4 (dk_at dksX0_toSend_0 0 rfl rfl)
theorem dX0_toSend_2 : decode cX0_toSend 2 = .ok (.iconst 0, 1) := dk_3 (dk_at dksX0_toSend_0 2 rfl rfl)
theorem dX0_toSend_3 : decode cX0_toSend 3 = .ok (.aload_n 0, 1) := dk_42 (dk_at dksX0_toSend_0 3 rfl rfl)
theorem dX0_toSend_4 : decode cX0_toSend 4 = .ok (.iload_n 1, 1) := dk_27 (dk_at dksX0_toSend_0 4 rfl rfl)
theorem dX0_toSend_5 : decode cX0_toSend 5 = .ok (.iload_n 2, 1) := dk_28 (dk_at dksX0_toSend_0 5 rfl rfl)
theorem dX0_toSend_6 : decode cX0_toSend 6 = .ok (.iload_n 3, 1) := dk_29 (dk_at dksX0_toSend_0 6 rfl rfl)
theorem dX0_toSend_7 : decode cX0_toSend 7 = .ok (.invokevirtual 58, 3) := dk_182 0 58 (dk_at dksX0_toSend_0 7 rfl rfl)
theorem dX0_toSend_10 : decode cX0_toSend 10 = .ok (.i2l, 1) := dk_133 (dk_at dksX0_toSend_0 10 rfl rfl)
theorem dX0_toSend_11 : decode cX0_toSend 11 = .ok (.lastore, 1) := dk_80 (dk_at dksX0_toSend_0 11 rfl rfl)
theorem dX0_toSend_12 : decode cX0_toSend 12 = .ok (.goto 11, 3) := dk_167 0 11 (dk_at dksX0_toSend_0 12 rfl rfl)
theorem dX0_toSend_15 : decode cX0_toSend 15 = .ok (.astore 5, 2) := dk_58 5 (dk_at dksX0_toSend_0 15 rfl rfl)
theorem dX0_toSend_17 : decode cX0_toSend 17 = .ok (.iconst 1, 1) := dk_4 (dk_at dksX0_toSend_0 17 rfl rfl)
theorem dX0_toSend_18 : decode cX0_toSend 18 = .ok (.ireturn, 1) := dk_172 (dk_at dksX0_toSend_0 18 rfl rfl)
theorem dX0_toSend_19 : decode cX0_toSend 19 = .ok (.astore 5, 2) := dk_58 5 (dk_at dksX0_toSend_0 19 rfl rfl)
theorem dX0_toSend_21 : decode cX0_toSend 21 = .ok (.iconst 2, 1) := dk_5 (dk_at dksX0_toSend_0 21 rfl rfl)
theorem dX0_toSend_22 : decode cX0_toSend 22 = .ok (.ireturn, 1) := dk_172 (dk_at dksX0_toSend_0 22 rfl rfl)
theorem dX0_toSend_23 : decode cX0_toSend 23 = .ok (.iconst 0, 1) := dk_3 (dk_at dksX0_toSend_0 23 rfl rfl)
theorem dX0_toSend_24 : decode cX0_toSend 24 = .ok (.ireturn, 1) := dk_172 (dk_at dksX0_toSend_1 0 rfl rfl)
abbrev cX0_bestStitch : ByteArray := method_18_code
def yX0_bestStitch : MethodName := ⟨RX0, "bestStitch", "(LHorizonSeam;II[J)I"⟩
def dkwX0_bestStitch_0 : List UInt8 := [45, 3, 42, 27, 28, 182, 0, 61, 133, 80, 167, 0, 11, 58, 4, 4, 172, 58, 4, 5, 172, 3, 172]
abbrev dktX0_bestStitch_0 : List UInt8 := dkwX0_bestStitch_0 ++ []
theorem dksX0_bestStitch_0 : cX0_bestStitch.data.toList.drop 0 = dktX0_bestStitch_0 := by decide +kernel
theorem dX0_bestStitch_0 : decode cX0_bestStitch 0 = .ok (.aload_n 3, 1) := dk_45 (dk_at dksX0_bestStitch_0 0 rfl rfl)
theorem dX0_bestStitch_1 : decode cX0_bestStitch 1 = .ok (.iconst 0, 1) := dk_3 (dk_at dksX0_bestStitch_0 1 rfl rfl)
theorem dX0_bestStitch_2 : decode cX0_bestStitch 2 = .ok (.aload_n 0, 1) := dk_42 (dk_at dksX0_bestStitch_0 2 rfl rfl)
theorem dX0_bestStitch_3 : decode cX0_bestStitch 3 = .ok (.iload_n 1, 1) := dk_27 (dk_at dksX0_bestStitch_0 3 rfl rfl)
theorem dX0_bestStitch_4 : decode cX0_bestStitch 4 = .ok (.iload_n 2, 1) := dk_28 (dk_at dksX0_bestStitch_0 4 rfl rfl)
theorem dX0_bestStitch_5 : decode cX0_bestStitch 5 = .ok (.invokevirtual 61, 3) := dk_182 0 61 (dk_at dksX0_bestStitch_0 5 rfl rfl)
theorem dX0_bestStitch_8 : decode cX0_bestStitch 8 = .ok (.i2l, 1) := dk_133 (dk_at dksX0_bestStitch_0 8 rfl rfl)
theorem dX0_bestStitch_9 : decode cX0_bestStitch 9 = .ok (.lastore, 1) := dk_80 (dk_at dksX0_bestStitch_0 9 rfl rfl)
theorem dX0_bestStitch_10 : decode cX0_bestStitch 10 = .ok (.goto 11, 3) := dk_167 0 11 (dk_at dksX0_bestStitch_0 10 rfl rfl)
theorem dX0_bestStitch_13 : decode cX0_bestStitch 13 = .ok (.astore 4, 2) := dk_58 4 (dk_at dksX0_bestStitch_0 13 rfl rfl)
theorem dX0_bestStitch_15 : decode cX0_bestStitch 15 = .ok (.iconst 1, 1) := dk_4 (dk_at dksX0_bestStitch_0 15 rfl rfl)
theorem dX0_bestStitch_16 : decode cX0_bestStitch 16 = .ok (.ireturn, 1) := dk_172 (dk_at dksX0_bestStitch_0 16 rfl rfl)
theorem dX0_bestStitch_17 : decode cX0_bestStitch 17 = .ok (.astore 4, 2) := dk_58 4 (dk_at dksX0_bestStitch_0 17 rfl rfl)
theorem dX0_bestStitch_19 : decode cX0_bestStitch 19 = .ok (.iconst 2, 1) := dk_5 (dk_at dksX0_bestStitch_0 19 rfl rfl)
theorem dX0_bestStitch_20 : decode cX0_bestStitch 20 = .ok (.ireturn, 1) := dk_172 (dk_at dksX0_bestStitch_0 20 rfl rfl)
theorem dX0_bestStitch_21 : decode cX0_bestStitch 21 = .ok (.iconst 0, 1) := dk_3 (dk_at dksX0_bestStitch_0 21 rfl rfl)
theorem dX0_bestStitch_22 : decode cX0_bestStitch 22 = .ok (.ireturn, 1) := dk_172 (dk_at dksX0_bestStitch_0 22 rfl rfl)
abbrev cX0_sent : ByteArray := method_19_code
def yX0_sent : MethodName := ⟨RX0, "sent", "(LHorizonSeam;II[J)I"⟩
def dkwX0_sent_0 : List UInt8 := [45, 3, 42, 27, 28, 182, 0, 64, 133, 80, 167, 0, 11, 58, 4, 4, 172, 58, 4, 5, 172, 3, 172]
abbrev dktX0_sent_0 : List UInt8 := dkwX0_sent_0 ++ []
theorem dksX0_sent_0 : cX0_sent.data.toList.drop 0 = dktX0_sent_0 := by decide +kernel
theorem dX0_sent_0 : decode cX0_sent 0 = .ok (.aload_n 3, 1) := dk_45 (dk_at dksX0_sent_0 0 rfl rfl)
theorem dX0_sent_1 : decode cX0_sent 1 = .ok (.iconst 0, 1) := dk_3 (dk_at dksX0_sent_0 1 rfl rfl)
theorem dX0_sent_2 : decode cX0_sent 2 = .ok (.aload_n 0, 1) := dk_42 (dk_at dksX0_sent_0 2 rfl rfl)
theorem dX0_sent_3 : decode cX0_sent 3 = .ok (.iload_n 1, 1) := dk_27 (dk_at dksX0_sent_0 3 rfl rfl)
theorem dX0_sent_4 : decode cX0_sent 4 = .ok (.iload_n 2, 1) := dk_28 (dk_at dksX0_sent_0 4 rfl rfl)
theorem dX0_sent_5 : decode cX0_sent 5 = .ok (.invokevirtual 64, 3) := dk_182 0 64 (dk_at dksX0_sent_0 5 rfl rfl)
theorem dX0_sent_8 : decode cX0_sent 8 = .ok (.i2l, 1) := dk_133 (dk_at dksX0_sent_0 8 rfl rfl)
theorem dX0_sent_9 : decode cX0_sent 9 = .ok (.lastore, 1) := dk_80 (dk_at dksX0_sent_0 9 rfl rfl)
theorem dX0_sent_10 : decode cX0_sent 10 = .ok (.goto 11, 3) := dk_167 0 11 (dk_at dksX0_sent_0 10 rfl rfl)
theorem dX0_sent_13 : decode cX0_sent 13 = .ok (.astore 4, 2) := dk_58 4 (dk_at dksX0_sent_0 13 rfl rfl)
theorem dX0_sent_15 : decode cX0_sent 15 = .ok (.iconst 1, 1) := dk_4 (dk_at dksX0_sent_0 15 rfl rfl)
theorem dX0_sent_16 : decode cX0_sent 16 = .ok (.ireturn, 1) := dk_172 (dk_at dksX0_sent_0 16 rfl rfl)
theorem dX0_sent_17 : decode cX0_sent 17 = .ok (.astore 4, 2) := dk_58 4 (dk_at dksX0_sent_0 17 rfl rfl)
theorem dX0_sent_19 : decode cX0_sent 19 = .ok (.iconst 2, 1) := dk_5 (dk_at dksX0_sent_0 19 rfl rfl)
theorem dX0_sent_20 : decode cX0_sent 20 = .ok (.ireturn, 1) := dk_172 (dk_at dksX0_sent_0 20 rfl rfl)
theorem dX0_sent_21 : decode cX0_sent 21 = .ok (.iconst 0, 1) := dk_3 (dk_at dksX0_sent_0 21 rfl rfl)
theorem dX0_sent_22 : decode cX0_sent 22 = .ok (.ireturn, 1) := dk_172 (dk_at dksX0_sent_0 22 rfl rfl)
abbrev cX0_closed : ByteArray := method_20_code
def yX0_closed : MethodName := ⟨RX0, "closed", "(LHorizonSeam;I[J)I"⟩
def dkwX0_closed_0 : List UInt8 := [44, 3, 42, 27, 182, 0, 67, 133, 80, 167, 0, 6, 78, 4, 172, 3, 172]
abbrev dktX0_closed_0 : List UInt8 := dkwX0_closed_0 ++ []
theorem dksX0_closed_0 : cX0_closed.data.toList.drop 0 = dktX0_closed_0 := by decide +kernel
theorem dX0_closed_0 : decode cX0_closed 0 = .ok (.aload_n 2, 1) := dk_44 (dk_at dksX0_closed_0 0 rfl rfl)
theorem dX0_closed_1 : decode cX0_closed 1 = .ok (.iconst 0, 1) := dk_3 (dk_at dksX0_closed_0 1 rfl rfl)
theorem dX0_closed_2 : decode cX0_closed 2 = .ok (.aload_n 0, 1) := dk_42 (dk_at dksX0_closed_0 2 rfl rfl)
theorem dX0_closed_3 : decode cX0_closed 3 = .ok (.iload_n 1, 1) := dk_27 (dk_at dksX0_closed_0 3 rfl rfl)
theorem dX0_closed_4 : decode cX0_closed 4 = .ok (.invokevirtual 67, 3) := dk_182 0 67 (dk_at dksX0_closed_0 4 rfl rfl)
theorem dX0_closed_7 : decode cX0_closed 7 = .ok (.i2l, 1) := dk_133 (dk_at dksX0_closed_0 7 rfl rfl)
theorem dX0_closed_8 : decode cX0_closed 8 = .ok (.lastore, 1) := dk_80 (dk_at dksX0_closed_0 8 rfl rfl)
theorem dX0_closed_9 : decode cX0_closed 9 = .ok (.goto 6, 3) := dk_167 0 6 (dk_at dksX0_closed_0 9 rfl rfl)
theorem dX0_closed_12 : decode cX0_closed 12 = .ok (.astore_n 3, 1) := dk_78 (dk_at dksX0_closed_0 12 rfl rfl)
theorem dX0_closed_13 : decode cX0_closed 13 = .ok (.iconst 1, 1) := dk_4 (dk_at dksX0_closed_0 13 rfl rfl)
theorem dX0_closed_14 : decode cX0_closed 14 = .ok (.ireturn, 1) := dk_172 (dk_at dksX0_closed_0 14 rfl rfl)
theorem dX0_closed_15 : decode cX0_closed 15 = .ok (.iconst 0, 1) := dk_3 (dk_at dksX0_closed_0 15 rfl rfl)
theorem dX0_closed_16 : decode cX0_closed 16 = .ok (.ireturn, 1) := dk_172 (dk_at dksX0_closed_0 16 rfl rfl)
abbrev cX0_tight : ByteArray := method_21_code
def yX0_tight : MethodName := ⟨RX0, "tight", "(LHorizonSeam;II[J)I"⟩
def dkwX0_tight_0 : List UInt8 := [45, 3, 42, 27, 28, 182, 0, 70, 133, 80, 167, 0, 11, 58, 4, 4, 172, 58, 4, 5, 172, 3, 172]
abbrev dktX0_tight_0 : List UInt8 := dkwX0_tight_0 ++ []
theorem dksX0_tight_0 : cX0_tight.data.toList.drop 0 = dktX0_tight_0 := by decide +kernel
theorem dX0_tight_0 : decode cX0_tight 0 = .ok (.aload_n 3, 1) := dk_45 (dk_at dksX0_tight_0 0 rfl rfl)
theorem dX0_tight_1 : decode cX0_tight 1 = .ok (.iconst 0, 1) := dk_3 (dk_at dksX0_tight_0 1 rfl rfl)
theorem dX0_tight_2 : decode cX0_tight 2 = .ok (.aload_n 0, 1) := dk_42 (dk_at dksX0_tight_0 2 rfl rfl)
theorem dX0_tight_3 : decode cX0_tight 3 = .ok (.iload_n 1, 1) := dk_27 (dk_at dksX0_tight_0 3 rfl rfl)
theorem dX0_tight_4 : decode cX0_tight 4 = .ok (.iload_n 2, 1) := dk_28 (dk_at dksX0_tight_0 4 rfl rfl)
theorem dX0_tight_5 : decode cX0_tight 5 = .ok (.invokevirtual 70, 3) := dk_182 0 70 (dk_at dksX0_tight_0 5 rfl rfl)
theorem dX0_tight_8 : decode cX0_tight 8 = .ok (.i2l, 1) := dk_133 (dk_at dksX0_tight_0 8 rfl rfl)
theorem dX0_tight_9 : decode cX0_tight 9 = .ok (.lastore, 1) := dk_80 (dk_at dksX0_tight_0 9 rfl rfl)
theorem dX0_tight_10 : decode cX0_tight 10 = .ok (.goto 11, 3) := dk_167 0 11 (dk_at dksX0_tight_0 10 rfl rfl)
theorem dX0_tight_13 : decode cX0_tight 13 = .ok (.astore 4, 2) := dk_58 4 (dk_at dksX0_tight_0 13 rfl rfl)
theorem dX0_tight_15 : decode cX0_tight 15 = .ok (.iconst 1, 1) := dk_4 (dk_at dksX0_tight_0 15 rfl rfl)
theorem dX0_tight_16 : decode cX0_tight 16 = .ok (.ireturn, 1) := dk_172 (dk_at dksX0_tight_0 16 rfl rfl)
theorem dX0_tight_17 : decode cX0_tight 17 = .ok (.astore 4, 2) := dk_58 4 (dk_at dksX0_tight_0 17 rfl rfl)
theorem dX0_tight_19 : decode cX0_tight 19 = .ok (.iconst 2, 1) := dk_5 (dk_at dksX0_tight_0 19 rfl rfl)
theorem dX0_tight_20 : decode cX0_tight 20 = .ok (.ireturn, 1) := dk_172 (dk_at dksX0_tight_0 20 rfl rfl)
theorem dX0_tight_21 : decode cX0_tight 21 = .ok (.iconst 0, 1) := dk_3 (dk_at dksX0_tight_0 21 rfl rfl)
theorem dX0_tight_22 : decode cX0_tight 22 = .ok (.ireturn, 1) := dk_172 (dk_at dksX0_tight_0 22 rfl rfl)
abbrev cX0_readings : ByteArray := method_22_code
def yX0_readings : MethodName := ⟨RX0, "readings", "(LHorizonSeam;II[J)I"⟩
def dkwX0_readings_0 : List UInt8 := [45, 3, 42, 27, 28, 182, 0, 73, 133, 80, 167, 0, 11, 58, 4, 4, 172, 58, 4, 5, 172, 3, 172]
abbrev dktX0_readings_0 : List UInt8 := dkwX0_readings_0 ++ []
theorem dksX0_readings_0 : cX0_readings.data.toList.drop 0 = dktX0_readings_0 := by decide +kernel
theorem dX0_readings_0 : decode cX0_readings 0 = .ok (.aload_n 3, 1) := dk_45 (dk_at dksX0_readings_0 0 rfl rfl)
theorem dX0_readings_1 : decode cX0_readings 1 = .ok (.iconst 0, 1) := dk_3 (dk_at dksX0_readings_0 1 rfl rfl)
theorem dX0_readings_2 : decode cX0_readings 2 = .ok (.aload_n 0, 1) := dk_42 (dk_at dksX0_readings_0 2 rfl rfl)
theorem dX0_readings_3 : decode cX0_readings 3 = .ok (.iload_n 1, 1) := dk_27 (dk_at dksX0_readings_0 3 rfl rfl)
theorem dX0_readings_4 : decode cX0_readings 4 = .ok (.iload_n 2, 1) := dk_28 (dk_at dksX0_readings_0 4 rfl rfl)
theorem dX0_readings_5 : decode cX0_readings 5 = .ok (.invokevirtual 73, 3) := dk_182 0 73 (dk_at dksX0_readings_0 5 rfl rfl)
theorem dX0_readings_8 : decode cX0_readings 8 = .ok (.i2l, 1) := dk_133 (dk_at dksX0_readings_0 8 rfl rfl)
theorem dX0_readings_9 : decode cX0_readings 9 = .ok (.lastore, 1) := dk_80 (dk_at dksX0_readings_0 9 rfl rfl)
theorem dX0_readings_10 : decode cX0_readings 10 = .ok (.goto 11, 3) := dk_167 0 11 (dk_at dksX0_readings_0 10 rfl rfl)
theorem dX0_readings_13 : decode cX0_readings 13 = .ok (.astore 4, 2) := dk_58 4 (dk_at dksX0_readings_0 13 rfl rfl)
theorem dX0_readings_15 : decode cX0_readings 15 = .ok (.iconst 1, 1) := dk_4 (dk_at dksX0_readings_0 15 rfl rfl)
theorem dX0_readings_16 : decode cX0_readings 16 = .ok (.ireturn, 1) := dk_172 (dk_at dksX0_readings_0 16 rfl rfl)
theorem dX0_readings_17 : decode cX0_readings 17 = .ok (.astore 4, 2) := dk_58 4 (dk_at dksX0_readings_0 17 rfl rfl)
theorem dX0_readings_19 : decode cX0_readings 19 = .ok (.iconst 2, 1) := dk_5 (dk_at dksX0_readings_0 19 rfl rfl)
theorem dX0_readings_20 : decode cX0_readings 20 = .ok (.ireturn, 1) := dk_172 (dk_at dksX0_readings_0 20 rfl rfl)
theorem dX0_readings_21 : decode cX0_readings 21 = .ok (.iconst 0, 1) := dk_3 (dk_at dksX0_readings_0 21 rfl rfl)
theorem dX0_readings_22 : decode cX0_readings 22 = .ok (.ireturn, 1) := dk_172 (dk_at dksX0_readings_0 22 rfl rfl)
abbrev cX0_see : ByteArray := method_23_code
def yX0_see : MethodName := ⟨RX0, "see", "(LHorizonSeam;III[J)I"⟩
def dkwX0_see_0 : List UInt8 := [25, 4, 3, 42, 27, 28, 29, 182, 0, 76, 133, 80, 167, 0, 7, 58, 5, 4, 172, 3, 172]
abbrev dktX0_see_0 : List UInt8 := dkwX0_see_0 ++ []
theorem dksX0_see_0 : cX0_see.data.toList.drop 0 = dktX0_see_0 := by decide +kernel
theorem dX0_see_0 : decode cX0_see 0 = .ok (.aload 4, 2) := dk_25 4 (dk_at dksX0_see_0 0 rfl rfl)
theorem dX0_see_2 : decode cX0_see 2 = .ok (.iconst 0, 1) := dk_3 (dk_at dksX0_see_0 2 rfl rfl)
theorem dX0_see_3 : decode cX0_see 3 = .ok (.aload_n 0, 1) := dk_42 (dk_at dksX0_see_0 3 rfl rfl)
theorem dX0_see_4 : decode cX0_see 4 = .ok (.iload_n 1, 1) := dk_27 (dk_at dksX0_see_0 4 rfl rfl)
theorem dX0_see_5 : decode cX0_see 5 = .ok (.iload_n 2, 1) := dk_28 (dk_at dksX0_see_0 5 rfl rfl)
theorem dX0_see_6 : decode cX0_see 6 = .ok (.iload_n 3, 1) := dk_29 (dk_at dksX0_see_0 6 rfl rfl)
theorem dX0_see_7 : decode cX0_see 7 = .ok (.invokevirtual 76, 3) := dk_182 0 76 (dk_at dksX0_see_0 7 rfl rfl)
theorem dX0_see_10 : decode cX0_see 10 = .ok (.i2l, 1) := dk_133 (dk_at dksX0_see_0 10 rfl rfl)
theorem dX0_see_11 : decode cX0_see 11 = .ok (.lastore, 1) := dk_80 (dk_at dksX0_see_0 11 rfl rfl)
theorem dX0_see_12 : decode cX0_see 12 = .ok (.goto 7, 3) := dk_167 0 7 (dk_at dksX0_see_0 12 rfl rfl)
theorem dX0_see_15 : decode cX0_see 15 = .ok (.astore 5, 2) := dk_58 5 (dk_at dksX0_see_0 15 rfl rfl)
theorem dX0_see_17 : decode cX0_see 17 = .ok (.iconst 1, 1) := dk_4 (dk_at dksX0_see_0 17 rfl rfl)
theorem dX0_see_18 : decode cX0_see 18 = .ok (.ireturn, 1) := dk_172 (dk_at dksX0_see_0 18 rfl rfl)
theorem dX0_see_19 : decode cX0_see 19 = .ok (.iconst 0, 1) := dk_3 (dk_at dksX0_see_0 19 rfl rfl)
theorem dX0_see_20 : decode cX0_see 20 = .ok (.ireturn, 1) := dk_172 (dk_at dksX0_see_0 20 rfl rfl)
abbrev cX0_torn : ByteArray := method_24_code
def yX0_torn : MethodName := ⟨RX0, "torn", "(LHorizonSeam;I[J)I"⟩
def dkwX0_torn_0 : List UInt8 := [44, 3, 42, 27, 182, 0, 79, 133, 80, 167, 0, 6, 78, 4, 172, 3, 172]
abbrev dktX0_torn_0 : List UInt8 := dkwX0_torn_0 ++ []
theorem dksX0_torn_0 : cX0_torn.data.toList.drop 0 = dktX0_torn_0 := by decide +kernel
theorem dX0_torn_0 : decode cX0_torn 0 = .ok (.aload_n 2, 1) := dk_44 (dk_at dksX0_torn_0 0 rfl rfl)
theorem dX0_torn_1 : decode cX0_torn 1 = .ok (.iconst 0, 1) := dk_3 (dk_at dksX0_torn_0 1 rfl rfl)
theorem dX0_torn_2 : decode cX0_torn 2 = .ok (.aload_n 0, 1) := dk_42 (dk_at dksX0_torn_0 2 rfl rfl)
theorem dX0_torn_3 : decode cX0_torn 3 = .ok (.iload_n 1, 1) := dk_27 (dk_at dksX0_torn_0 3 rfl rfl)
theorem dX0_torn_4 : decode cX0_torn 4 = .ok (.invokevirtual 79, 3) := dk_182 0 79 (dk_at dksX0_torn_0 4 rfl rfl)
theorem dX0_torn_7 : decode cX0_torn 7 = .ok (.i2l, 1) := dk_133 (dk_at dksX0_torn_0 7 rfl rfl)
theorem dX0_torn_8 : decode cX0_torn 8 = .ok (.lastore, 1) := dk_80 (dk_at dksX0_torn_0 8 rfl rfl)
theorem dX0_torn_9 : decode cX0_torn 9 = .ok (.goto 6, 3) := dk_167 0 6 (dk_at dksX0_torn_0 9 rfl rfl)
theorem dX0_torn_12 : decode cX0_torn 12 = .ok (.astore_n 3, 1) := dk_78 (dk_at dksX0_torn_0 12 rfl rfl)
theorem dX0_torn_13 : decode cX0_torn 13 = .ok (.iconst 1, 1) := dk_4 (dk_at dksX0_torn_0 13 rfl rfl)
theorem dX0_torn_14 : decode cX0_torn 14 = .ok (.ireturn, 1) := dk_172 (dk_at dksX0_torn_0 14 rfl rfl)
theorem dX0_torn_15 : decode cX0_torn 15 = .ok (.iconst 0, 1) := dk_3 (dk_at dksX0_torn_0 15 rfl rfl)
theorem dX0_torn_16 : decode cX0_torn 16 = .ok (.ireturn, 1) := dk_172 (dk_at dksX0_torn_0 16 rfl rfl)
abbrev cX0_look : ByteArray := method_25_code
def yX0_look : MethodName := ⟨RX0, "look", "(LHorizonSeam;I[J)I"⟩
def dkwX0_look_0 : List UInt8 := [44, 3, 42, 27, 182, 0, 82, 133, 80, 167, 0, 6, 78, 4, 172, 3, 172]
abbrev dktX0_look_0 : List UInt8 := dkwX0_look_0 ++ []
theorem dksX0_look_0 : cX0_look.data.toList.drop 0 = dktX0_look_0 := by decide +kernel
theorem dX0_look_0 : decode cX0_look 0 = .ok (.aload_n 2, 1) := dk_44 (dk_at dksX0_look_0 0 rfl rfl)
theorem dX0_look_1 : decode cX0_look 1 = .ok (.iconst 0, 1) := dk_3 (dk_at dksX0_look_0 1 rfl rfl)
theorem dX0_look_2 : decode cX0_look 2 = .ok (.aload_n 0, 1) := dk_42 (dk_at dksX0_look_0 2 rfl rfl)
theorem dX0_look_3 : decode cX0_look 3 = .ok (.iload_n 1, 1) := dk_27 (dk_at dksX0_look_0 3 rfl rfl)
theorem dX0_look_4 : decode cX0_look 4 = .ok (.invokevirtual 82, 3) := dk_182 0 82 (dk_at dksX0_look_0 4 rfl rfl)
theorem dX0_look_7 : decode cX0_look 7 = .ok (.i2l, 1) := dk_133 (dk_at dksX0_look_0 7 rfl rfl)
theorem dX0_look_8 : decode cX0_look 8 = .ok (.lastore, 1) := dk_80 (dk_at dksX0_look_0 8 rfl rfl)
theorem dX0_look_9 : decode cX0_look 9 = .ok (.goto 6, 3) := dk_167 0 6 (dk_at dksX0_look_0 9 rfl rfl)
theorem dX0_look_12 : decode cX0_look 12 = .ok (.astore_n 3, 1) := dk_78 (dk_at dksX0_look_0 12 rfl rfl)
theorem dX0_look_13 : decode cX0_look 13 = .ok (.iconst 1, 1) := dk_4 (dk_at dksX0_look_0 13 rfl rfl)
theorem dX0_look_14 : decode cX0_look 14 = .ok (.ireturn, 1) := dk_172 (dk_at dksX0_look_0 14 rfl rfl)
theorem dX0_look_15 : decode cX0_look 15 = .ok (.iconst 0, 1) := dk_3 (dk_at dksX0_look_0 15 rfl rfl)
theorem dX0_look_16 : decode cX0_look 16 = .ok (.ireturn, 1) := dk_172 (dk_at dksX0_look_0 16 rfl rfl)
abbrev cX0_gales : ByteArray := method_26_code
def yX0_gales : MethodName := ⟨RX0, "gales", "(LHorizonSeam;II[J)I"⟩
def dkwX0_gales_0 : List UInt8 := [45, 3, 42, 27, 28, 182, 0, 85, 133, 80, 167, 0, 7, 58, 4, 4, 172, 3, 172]
abbrev dktX0_gales_0 : List UInt8 := dkwX0_gales_0 ++ []
theorem dksX0_gales_0 : cX0_gales.data.toList.drop 0 = dktX0_gales_0 := by decide +kernel
theorem dX0_gales_0 : decode cX0_gales 0 = .ok (.aload_n 3, 1) := dk_45 (dk_at dksX0_gales_0 0 rfl rfl)
theorem dX0_gales_1 : decode cX0_gales 1 = .ok (.iconst 0, 1) := dk_3 (dk_at dksX0_gales_0 1 rfl rfl)
theorem dX0_gales_2 : decode cX0_gales 2 = .ok (.aload_n 0, 1) := dk_42 (dk_at dksX0_gales_0 2 rfl rfl)
theorem dX0_gales_3 : decode cX0_gales 3 = .ok (.iload_n 1, 1) := dk_27 (dk_at dksX0_gales_0 3 rfl rfl)
theorem dX0_gales_4 : decode cX0_gales 4 = .ok (.iload_n 2, 1) := dk_28 (dk_at dksX0_gales_0 4 rfl rfl)
theorem dX0_gales_5 : decode cX0_gales 5 = .ok (.invokevirtual 85, 3) := dk_182 0 85 (dk_at dksX0_gales_0 5 rfl rfl)
theorem dX0_gales_8 : decode cX0_gales 8 = .ok (.i2l, 1) := dk_133 (dk_at dksX0_gales_0 8 rfl rfl)
theorem dX0_gales_9 : decode cX0_gales 9 = .ok (.lastore, 1) := dk_80 (dk_at dksX0_gales_0 9 rfl rfl)
theorem dX0_gales_10 : decode cX0_gales 10 = .ok (.goto 7, 3) := dk_167 0 7 (dk_at dksX0_gales_0 10 rfl rfl)
theorem dX0_gales_13 : decode cX0_gales 13 = .ok (.astore 4, 2) := dk_58 4 (dk_at dksX0_gales_0 13 rfl rfl)
theorem dX0_gales_15 : decode cX0_gales 15 = .ok (.iconst 1, 1) := dk_4 (dk_at dksX0_gales_0 15 rfl rfl)
theorem dX0_gales_16 : decode cX0_gales 16 = .ok (.ireturn, 1) := dk_172 (dk_at dksX0_gales_0 16 rfl rfl)
theorem dX0_gales_17 : decode cX0_gales 17 = .ok (.iconst 0, 1) := dk_3 (dk_at dksX0_gales_0 17 rfl rfl)
theorem dX0_gales_18 : decode cX0_gales 18 = .ok (.ireturn, 1) := dk_172 (dk_at dksX0_gales_0 18 rfl rfl)
abbrev cX0_game : ByteArray := method_27_code
def yX0_game : MethodName := ⟨RX0, "game", "(LHorizonSeam;III[J)I"⟩
def dkwX0_game_1 : List UInt8 := [172]
abbrev dktX0_game_1 : List UInt8 := dkwX0_game_1 ++ []
def dkwX0_game_0 : List UInt8 := [25, 4, 3, 42, 27, 28, 29, 182, 0, 88, 133, 80, 167, 0, 11, 58, 5, 4, 172, 58, 5, 5, 172, 3]
abbrev dktX0_game_0 : List UInt8 := dkwX0_game_0 ++ dktX0_game_1
theorem dksX0_game_0 : cX0_game.data.toList.drop 0 = dktX0_game_0 := by decide +kernel
theorem dksX0_game_1 : cX0_game.data.toList.drop 24 = dktX0_game_1 := dk_seg dksX0_game_0 24 rfl rfl
theorem dX0_game_0 : decode cX0_game 0 = .ok (.aload 4, 2) := dk_25 4 (dk_at dksX0_game_0 0 rfl rfl)
theorem dX0_game_2 : decode cX0_game 2 = .ok (.iconst 0, 1) := dk_3 (dk_at dksX0_game_0 2 rfl rfl)
theorem dX0_game_3 : decode cX0_game 3 = .ok (.aload_n 0, 1) := dk_42 (dk_at dksX0_game_0 3 rfl rfl)
theorem dX0_game_4 : decode cX0_game 4 = .ok (.iload_n 1, 1) := dk_27 (dk_at dksX0_game_0 4 rfl rfl)
theorem dX0_game_5 : decode cX0_game 5 = .ok (.iload_n 2, 1) := dk_28 (dk_at dksX0_game_0 5 rfl rfl)
theorem dX0_game_6 : decode cX0_game 6 = .ok (.iload_n 3, 1) := dk_29 (dk_at dksX0_game_0 6 rfl rfl)
theorem dX0_game_7 : decode cX0_game 7 = .ok (.invokevirtual 88, 3) := dk_182 0 88 (dk_at dksX0_game_0 7 rfl rfl)
theorem dX0_game_10 : decode cX0_game 10 = .ok (.i2l, 1) := dk_133 (dk_at dksX0_game_0 10 rfl rfl)
theorem dX0_game_11 : decode cX0_game 11 = .ok (.lastore, 1) := dk_80 (dk_at dksX0_game_0 11 rfl rfl)
theorem dX0_game_12 : decode cX0_game 12 = .ok (.goto 11, 3) := dk_167 0 11 (dk_at dksX0_game_0 12 rfl rfl)
theorem dX0_game_15 : decode cX0_game 15 = .ok (.astore 5, 2) := dk_58 5 (dk_at dksX0_game_0 15 rfl rfl)
theorem dX0_game_17 : decode cX0_game 17 = .ok (.iconst 1, 1) := dk_4 (dk_at dksX0_game_0 17 rfl rfl)
theorem dX0_game_18 : decode cX0_game 18 = .ok (.ireturn, 1) := dk_172 (dk_at dksX0_game_0 18 rfl rfl)
theorem dX0_game_19 : decode cX0_game 19 = .ok (.astore 5, 2) := dk_58 5 (dk_at dksX0_game_0 19 rfl rfl)
theorem dX0_game_21 : decode cX0_game 21 = .ok (.iconst 2, 1) := dk_5 (dk_at dksX0_game_0 21 rfl rfl)
theorem dX0_game_22 : decode cX0_game 22 = .ok (.ireturn, 1) := dk_172 (dk_at dksX0_game_0 22 rfl rfl)
theorem dX0_game_23 : decode cX0_game 23 = .ok (.iconst 0, 1) := dk_3 (dk_at dksX0_game_0 23 rfl rfl)
theorem dX0_game_24 : decode cX0_game 24 = .ok (.ireturn, 1) := dk_172 (dk_at dksX0_game_1 0 rfl rfl)
abbrev cX0_years : ByteArray := method_28_code
def yX0_years : MethodName := ⟨RX0, "years", "(LHorizonSeam;III[J)I"⟩
def dkwX0_years_1 : List UInt8 := [172]
abbrev dktX0_years_1 : List UInt8 := dkwX0_years_1 ++ []
def dkwX0_years_0 : List UInt8 := [25, 4, 3, 42, 27, 28, 29, 182, 0, 91, 133, 80, 167, 0, 11, 58, 5, 4, 172, 58, 5, 5, 172, 3]
abbrev dktX0_years_0 : List UInt8 := dkwX0_years_0 ++ dktX0_years_1
theorem dksX0_years_0 : cX0_years.data.toList.drop 0 = dktX0_years_0 := by decide +kernel
theorem dksX0_years_1 : cX0_years.data.toList.drop 24 = dktX0_years_1 := dk_seg dksX0_years_0 24 rfl rfl
theorem dX0_years_0 : decode cX0_years 0 = .ok (.aload 4, 2) := dk_25 4 (dk_at dksX0_years_0 0 rfl rfl)
theorem dX0_years_2 : decode cX0_years 2 = .ok (.iconst 0, 1) := dk_3 (dk_at dksX0_years_0 2 rfl rfl)
theorem dX0_years_3 : decode cX0_years 3 = .ok (.aload_n 0, 1) := dk_42 (dk_at dksX0_years_0 3 rfl rfl)
theorem dX0_years_4 : decode cX0_years 4 = .ok (.iload_n 1, 1) := dk_27 (dk_at dksX0_years_0 4 rfl rfl)
theorem dX0_years_5 : decode cX0_years 5 = .ok (.iload_n 2, 1) := dk_28 (dk_at dksX0_years_0 5 rfl rfl)
theorem dX0_years_6 : decode cX0_years 6 = .ok (.iload_n 3, 1) := dk_29 (dk_at dksX0_years_0 6 rfl rfl)
theorem dX0_years_7 : decode cX0_years 7 = .ok (.invokevirtual 91, 3) := dk_182 0 91 (dk_at dksX0_years_0 7 rfl rfl)
theorem dX0_years_10 : decode cX0_years 10 = .ok (.i2l, 1) := dk_133 (dk_at dksX0_years_0 10 rfl rfl)
theorem dX0_years_11 : decode cX0_years 11 = .ok (.lastore, 1) := dk_80 (dk_at dksX0_years_0 11 rfl rfl)
theorem dX0_years_12 : decode cX0_years 12 = .ok (.goto 11, 3) := dk_167 0 11 (dk_at dksX0_years_0 12 rfl rfl)
theorem dX0_years_15 : decode cX0_years 15 = .ok (.astore 5, 2) := dk_58 5 (dk_at dksX0_years_0 15 rfl rfl)
theorem dX0_years_17 : decode cX0_years 17 = .ok (.iconst 1, 1) := dk_4 (dk_at dksX0_years_0 17 rfl rfl)
theorem dX0_years_18 : decode cX0_years 18 = .ok (.ireturn, 1) := dk_172 (dk_at dksX0_years_0 18 rfl rfl)
theorem dX0_years_19 : decode cX0_years 19 = .ok (.astore 5, 2) := dk_58 5 (dk_at dksX0_years_0 19 rfl rfl)
theorem dX0_years_21 : decode cX0_years 21 = .ok (.iconst 2, 1) := dk_5 (dk_at dksX0_years_0 21 rfl rfl)
theorem dX0_years_22 : decode cX0_years 22 = .ok (.ireturn, 1) := dk_172 (dk_at dksX0_years_0 22 rfl rfl)
theorem dX0_years_23 : decode cX0_years 23 = .ok (.iconst 0, 1) := dk_3 (dk_at dksX0_years_0 23 rfl rfl)
theorem dX0_years_24 : decode cX0_years 24 = .ok (.ireturn, 1) := dk_172 (dk_at dksX0_years_1 0 rfl rfl)
abbrev cX0_nearest : ByteArray := method_29_code
def yX0_nearest : MethodName := ⟨RX0, "nearest", "(LHorizonSeam;I[J)I"⟩
def dkwX0_nearest_0 : List UInt8 := [44, 3, 42, 27, 182, 0, 94, 133, 80, 167, 0, 6, 78, 4, 172, 3, 172]
abbrev dktX0_nearest_0 : List UInt8 := dkwX0_nearest_0 ++ []
theorem dksX0_nearest_0 : cX0_nearest.data.toList.drop 0 = dktX0_nearest_0 := by decide +kernel
theorem dX0_nearest_0 : decode cX0_nearest 0 = .ok (.aload_n 2, 1) := dk_44 (dk_at dksX0_nearest_0 0 rfl rfl)
theorem dX0_nearest_1 : decode cX0_nearest 1 = .ok (.iconst 0, 1) := dk_3 (dk_at dksX0_nearest_0 1 rfl rfl)
theorem dX0_nearest_2 : decode cX0_nearest 2 = .ok (.aload_n 0, 1) := dk_42 (dk_at dksX0_nearest_0 2 rfl rfl)
theorem dX0_nearest_3 : decode cX0_nearest 3 = .ok (.iload_n 1, 1) := dk_27 (dk_at dksX0_nearest_0 3 rfl rfl)
theorem dX0_nearest_4 : decode cX0_nearest 4 = .ok (.invokevirtual 94, 3) := dk_182 0 94 (dk_at dksX0_nearest_0 4 rfl rfl)
theorem dX0_nearest_7 : decode cX0_nearest 7 = .ok (.i2l, 1) := dk_133 (dk_at dksX0_nearest_0 7 rfl rfl)
theorem dX0_nearest_8 : decode cX0_nearest 8 = .ok (.lastore, 1) := dk_80 (dk_at dksX0_nearest_0 8 rfl rfl)
theorem dX0_nearest_9 : decode cX0_nearest 9 = .ok (.goto 6, 3) := dk_167 0 6 (dk_at dksX0_nearest_0 9 rfl rfl)
theorem dX0_nearest_12 : decode cX0_nearest 12 = .ok (.astore_n 3, 1) := dk_78 (dk_at dksX0_nearest_0 12 rfl rfl)
theorem dX0_nearest_13 : decode cX0_nearest 13 = .ok (.iconst 1, 1) := dk_4 (dk_at dksX0_nearest_0 13 rfl rfl)
theorem dX0_nearest_14 : decode cX0_nearest 14 = .ok (.ireturn, 1) := dk_172 (dk_at dksX0_nearest_0 14 rfl rfl)
theorem dX0_nearest_15 : decode cX0_nearest 15 = .ok (.iconst 0, 1) := dk_3 (dk_at dksX0_nearest_0 15 rfl rfl)
theorem dX0_nearest_16 : decode cX0_nearest 16 = .ok (.ireturn, 1) := dk_172 (dk_at dksX0_nearest_0 16 rfl rfl)
abbrev cX0_far : ByteArray := method_30_code
def yX0_far : MethodName := ⟨RX0, "far", "(LHorizonSeam;II[J)I"⟩
def dkwX0_far_0 : List UInt8 := [45, 3, 42, 27, 28, 182, 0, 97, 133, 80, 167, 0, 7, 58, 4, 4, 172, 3, 172]
abbrev dktX0_far_0 : List UInt8 := dkwX0_far_0 ++ []
theorem dksX0_far_0 : cX0_far.data.toList.drop 0 = dktX0_far_0 := by decide +kernel
theorem dX0_far_0 : decode cX0_far 0 = .ok (.aload_n 3, 1) := dk_45 (dk_at dksX0_far_0 0 rfl rfl)
theorem dX0_far_1 : decode cX0_far 1 = .ok (.iconst 0, 1) := dk_3 (dk_at dksX0_far_0 1 rfl rfl)
theorem dX0_far_2 : decode cX0_far 2 = .ok (.aload_n 0, 1) := dk_42 (dk_at dksX0_far_0 2 rfl rfl)
theorem dX0_far_3 : decode cX0_far 3 = .ok (.iload_n 1, 1) := dk_27 (dk_at dksX0_far_0 3 rfl rfl)
theorem dX0_far_4 : decode cX0_far 4 = .ok (.iload_n 2, 1) := dk_28 (dk_at dksX0_far_0 4 rfl rfl)
theorem dX0_far_5 : decode cX0_far 5 = .ok (.invokevirtual 97, 3) := dk_182 0 97 (dk_at dksX0_far_0 5 rfl rfl)
theorem dX0_far_8 : decode cX0_far 8 = .ok (.i2l, 1) := dk_133 (dk_at dksX0_far_0 8 rfl rfl)
theorem dX0_far_9 : decode cX0_far 9 = .ok (.lastore, 1) := dk_80 (dk_at dksX0_far_0 9 rfl rfl)
theorem dX0_far_10 : decode cX0_far 10 = .ok (.goto 7, 3) := dk_167 0 7 (dk_at dksX0_far_0 10 rfl rfl)
theorem dX0_far_13 : decode cX0_far 13 = .ok (.astore 4, 2) := dk_58 4 (dk_at dksX0_far_0 13 rfl rfl)
theorem dX0_far_15 : decode cX0_far 15 = .ok (.iconst 1, 1) := dk_4 (dk_at dksX0_far_0 15 rfl rfl)
theorem dX0_far_16 : decode cX0_far 16 = .ok (.ireturn, 1) := dk_172 (dk_at dksX0_far_0 16 rfl rfl)
theorem dX0_far_17 : decode cX0_far 17 = .ok (.iconst 0, 1) := dk_3 (dk_at dksX0_far_0 17 rfl rfl)
theorem dX0_far_18 : decode cX0_far 18 = .ok (.ireturn, 1) := dk_172 (dk_at dksX0_far_0 18 rfl rfl)
abbrev cX0_worst : ByteArray := method_31_code
def yX0_worst : MethodName := ⟨RX0, "worst", "(LHorizonSeam;I[J)I"⟩
def dkwX0_worst_0 : List UInt8 := [44, 3, 42, 27, 182, 0, 100, 133, 80, 167, 0, 6, 78, 4, 172, 3, 172]
abbrev dktX0_worst_0 : List UInt8 := dkwX0_worst_0 ++ []
theorem dksX0_worst_0 : cX0_worst.data.toList.drop 0 = dktX0_worst_0 := by decide +kernel
theorem dX0_worst_0 : decode cX0_worst 0 = .ok (.aload_n 2, 1) := dk_44 (dk_at dksX0_worst_0 0 rfl rfl)
theorem dX0_worst_1 : decode cX0_worst 1 = .ok (.iconst 0, 1) := dk_3 (dk_at dksX0_worst_0 1 rfl rfl)
theorem dX0_worst_2 : decode cX0_worst 2 = .ok (.aload_n 0, 1) := dk_42 (dk_at dksX0_worst_0 2 rfl rfl)
theorem dX0_worst_3 : decode cX0_worst 3 = .ok (.iload_n 1, 1) := dk_27 (dk_at dksX0_worst_0 3 rfl rfl)
theorem dX0_worst_4 : decode cX0_worst 4 = .ok (.invokevirtual 100, 3) := dk_182 0 100 (dk_at dksX0_worst_0 4 rfl rfl)
theorem dX0_worst_7 : decode cX0_worst 7 = .ok (.i2l, 1) := dk_133 (dk_at dksX0_worst_0 7 rfl rfl)
theorem dX0_worst_8 : decode cX0_worst 8 = .ok (.lastore, 1) := dk_80 (dk_at dksX0_worst_0 8 rfl rfl)
theorem dX0_worst_9 : decode cX0_worst 9 = .ok (.goto 6, 3) := dk_167 0 6 (dk_at dksX0_worst_0 9 rfl rfl)
theorem dX0_worst_12 : decode cX0_worst 12 = .ok (.astore_n 3, 1) := dk_78 (dk_at dksX0_worst_0 12 rfl rfl)
theorem dX0_worst_13 : decode cX0_worst 13 = .ok (.iconst 1, 1) := dk_4 (dk_at dksX0_worst_0 13 rfl rfl)
theorem dX0_worst_14 : decode cX0_worst 14 = .ok (.ireturn, 1) := dk_172 (dk_at dksX0_worst_0 14 rfl rfl)
theorem dX0_worst_15 : decode cX0_worst 15 = .ok (.iconst 0, 1) := dk_3 (dk_at dksX0_worst_0 15 rfl rfl)
theorem dX0_worst_16 : decode cX0_worst 16 = .ok (.ireturn, 1) := dk_172 (dk_at dksX0_worst_0 16 rfl rfl)
abbrev cX0_meet : ByteArray := method_32_code
def yX0_meet : MethodName := ⟨RX0, "meet", "(LHorizonSeam;II[J)I"⟩
def dkwX0_meet_0 : List UInt8 := [45, 3, 42, 27, 28, 182, 0, 103, 133, 80, 167, 0, 7, 58, 4, 4, 172, 3, 172]
abbrev dktX0_meet_0 : List UInt8 := dkwX0_meet_0 ++ []
theorem dksX0_meet_0 : cX0_meet.data.toList.drop 0 = dktX0_meet_0 := by decide +kernel
theorem dX0_meet_0 : decode cX0_meet 0 = .ok (.aload_n 3, 1) := dk_45 (dk_at dksX0_meet_0 0 rfl rfl)
theorem dX0_meet_1 : decode cX0_meet 1 = .ok (.iconst 0, 1) := dk_3 (dk_at dksX0_meet_0 1 rfl rfl)
theorem dX0_meet_2 : decode cX0_meet 2 = .ok (.aload_n 0, 1) := dk_42 (dk_at dksX0_meet_0 2 rfl rfl)
theorem dX0_meet_3 : decode cX0_meet 3 = .ok (.iload_n 1, 1) := dk_27 (dk_at dksX0_meet_0 3 rfl rfl)
theorem dX0_meet_4 : decode cX0_meet 4 = .ok (.iload_n 2, 1) := dk_28 (dk_at dksX0_meet_0 4 rfl rfl)
theorem dX0_meet_5 : decode cX0_meet 5 = .ok (.invokevirtual 103, 3) := dk_182 0 103 (dk_at dksX0_meet_0 5 rfl rfl)
theorem dX0_meet_8 : decode cX0_meet 8 = .ok (.i2l, 1) := dk_133 (dk_at dksX0_meet_0 8 rfl rfl)
theorem dX0_meet_9 : decode cX0_meet 9 = .ok (.lastore, 1) := dk_80 (dk_at dksX0_meet_0 9 rfl rfl)
theorem dX0_meet_10 : decode cX0_meet 10 = .ok (.goto 7, 3) := dk_167 0 7 (dk_at dksX0_meet_0 10 rfl rfl)
theorem dX0_meet_13 : decode cX0_meet 13 = .ok (.astore 4, 2) := dk_58 4 (dk_at dksX0_meet_0 13 rfl rfl)
theorem dX0_meet_15 : decode cX0_meet 15 = .ok (.iconst 1, 1) := dk_4 (dk_at dksX0_meet_0 15 rfl rfl)
theorem dX0_meet_16 : decode cX0_meet 16 = .ok (.ireturn, 1) := dk_172 (dk_at dksX0_meet_0 16 rfl rfl)
theorem dX0_meet_17 : decode cX0_meet 17 = .ok (.iconst 0, 1) := dk_3 (dk_at dksX0_meet_0 17 rfl rfl)
theorem dX0_meet_18 : decode cX0_meet 18 = .ok (.ireturn, 1) := dk_172 (dk_at dksX0_meet_0 18 rfl rfl)
abbrev cX0_bare : ByteArray := method_33_code
def yX0_bare : MethodName := ⟨RX0, "bare", "(LHorizonSeam;I[J)I"⟩
def dkwX0_bare_0 : List UInt8 := [44, 3, 42, 27, 182, 0, 106, 133, 80, 167, 0, 6, 78, 4, 172, 3, 172]
abbrev dktX0_bare_0 : List UInt8 := dkwX0_bare_0 ++ []
theorem dksX0_bare_0 : cX0_bare.data.toList.drop 0 = dktX0_bare_0 := by decide +kernel
theorem dX0_bare_0 : decode cX0_bare 0 = .ok (.aload_n 2, 1) := dk_44 (dk_at dksX0_bare_0 0 rfl rfl)
theorem dX0_bare_1 : decode cX0_bare 1 = .ok (.iconst 0, 1) := dk_3 (dk_at dksX0_bare_0 1 rfl rfl)
theorem dX0_bare_2 : decode cX0_bare 2 = .ok (.aload_n 0, 1) := dk_42 (dk_at dksX0_bare_0 2 rfl rfl)
theorem dX0_bare_3 : decode cX0_bare 3 = .ok (.iload_n 1, 1) := dk_27 (dk_at dksX0_bare_0 3 rfl rfl)
theorem dX0_bare_4 : decode cX0_bare 4 = .ok (.invokevirtual 106, 3) := dk_182 0 106 (dk_at dksX0_bare_0 4 rfl rfl)
theorem dX0_bare_7 : decode cX0_bare 7 = .ok (.i2l, 1) := dk_133 (dk_at dksX0_bare_0 7 rfl rfl)
theorem dX0_bare_8 : decode cX0_bare 8 = .ok (.lastore, 1) := dk_80 (dk_at dksX0_bare_0 8 rfl rfl)
theorem dX0_bare_9 : decode cX0_bare 9 = .ok (.goto 6, 3) := dk_167 0 6 (dk_at dksX0_bare_0 9 rfl rfl)
theorem dX0_bare_12 : decode cX0_bare 12 = .ok (.astore_n 3, 1) := dk_78 (dk_at dksX0_bare_0 12 rfl rfl)
theorem dX0_bare_13 : decode cX0_bare 13 = .ok (.iconst 1, 1) := dk_4 (dk_at dksX0_bare_0 13 rfl rfl)
theorem dX0_bare_14 : decode cX0_bare 14 = .ok (.ireturn, 1) := dk_172 (dk_at dksX0_bare_0 14 rfl rfl)
theorem dX0_bare_15 : decode cX0_bare 15 = .ok (.iconst 0, 1) := dk_3 (dk_at dksX0_bare_0 15 rfl rfl)
theorem dX0_bare_16 : decode cX0_bare 16 = .ok (.ireturn, 1) := dk_172 (dk_at dksX0_bare_0 16 rfl rfl)
abbrev cX0_load : ByteArray := method_34_code
def yX0_load : MethodName := ⟨RX0, "load", "(LHorizonSeam;I[J)I"⟩
def dkwX0_load_0 : List UInt8 := [44, 3, 42, 27, 182, 0, 109, 133, 80, 167, 0, 6, 78, 4, 172, 3, 172]
abbrev dktX0_load_0 : List UInt8 := dkwX0_load_0 ++ []
theorem dksX0_load_0 : cX0_load.data.toList.drop 0 = dktX0_load_0 := by decide +kernel
theorem dX0_load_0 : decode cX0_load 0 = .ok (.aload_n 2, 1) := dk_44 (dk_at dksX0_load_0 0 rfl rfl)
theorem dX0_load_1 : decode cX0_load 1 = .ok (.iconst 0, 1) := dk_3 (dk_at dksX0_load_0 1 rfl rfl)
theorem dX0_load_2 : decode cX0_load 2 = .ok (.aload_n 0, 1) := dk_42 (dk_at dksX0_load_0 2 rfl rfl)
theorem dX0_load_3 : decode cX0_load 3 = .ok (.iload_n 1, 1) := dk_27 (dk_at dksX0_load_0 3 rfl rfl)
theorem dX0_load_4 : decode cX0_load 4 = .ok (.invokevirtual 109, 3) := dk_182 0 109 (dk_at dksX0_load_0 4 rfl rfl)
theorem dX0_load_7 : decode cX0_load 7 = .ok (.i2l, 1) := dk_133 (dk_at dksX0_load_0 7 rfl rfl)
theorem dX0_load_8 : decode cX0_load 8 = .ok (.lastore, 1) := dk_80 (dk_at dksX0_load_0 8 rfl rfl)
theorem dX0_load_9 : decode cX0_load 9 = .ok (.goto 6, 3) := dk_167 0 6 (dk_at dksX0_load_0 9 rfl rfl)
theorem dX0_load_12 : decode cX0_load 12 = .ok (.astore_n 3, 1) := dk_78 (dk_at dksX0_load_0 12 rfl rfl)
theorem dX0_load_13 : decode cX0_load 13 = .ok (.iconst 1, 1) := dk_4 (dk_at dksX0_load_0 13 rfl rfl)
theorem dX0_load_14 : decode cX0_load 14 = .ok (.ireturn, 1) := dk_172 (dk_at dksX0_load_0 14 rfl rfl)
theorem dX0_load_15 : decode cX0_load 15 = .ok (.iconst 0, 1) := dk_3 (dk_at dksX0_load_0 15 rfl rfl)
theorem dX0_load_16 : decode cX0_load 16 = .ok (.ireturn, 1) := dk_172 (dk_at dksX0_load_0 16 rfl rfl)
