set_option maxRecDepth 100000
abbrev cX5_want : ByteArray := prog_7_method_10_code
def yX5_want : MethodName := ⟨RX5, "want", "(ZI)V"⟩
def dkwX5_want_0 : List UInt8 := [27, 154, 0, 12, 187, 0, 125, 89, 28, 183, 0, 127, 191, 177]
abbrev dktX5_want_0 : List UInt8 := dkwX5_want_0 ++ []
theorem dksX5_want_0 : cX5_want.data.toList.drop 0 = dktX5_want_0 := by decide +kernel
theorem dX5_want_0 : decode cX5_want 0 = .ok (.iload_n 1, 1) := dk_27 (dk_at dksX5_want_0 0 rfl rfl)
theorem dX5_want_1 : decode cX5_want 1 = .ok (.ifCond .ne 12, 3) := dk_154 0 12 (dk_at dksX5_want_0 1 rfl rfl)
theorem dX5_want_4 : decode cX5_want 4 = .ok (.new 125, 3) := dk_187 0 125 (dk_at dksX5_want_0 4 rfl rfl)
theorem dX5_want_7 : decode cX5_want 7 = .ok (.dup, 1) := dk_89 (dk_at dksX5_want_0 7 rfl rfl)
theorem dX5_want_8 : decode cX5_want 8 = .ok (.iload_n 2, 1) := dk_28 (dk_at dksX5_want_0 8 rfl rfl)
theorem dX5_want_9 : decode cX5_want 9 = .ok (.invokespecial 127, 3) := dk_183 0 127 (dk_at dksX5_want_0 9 rfl rfl)
theorem dX5_want_12 : decode cX5_want 12 = .ok (.athrow, 1) := dk_191 (dk_at dksX5_want_0 12 rfl rfl)
theorem dX5_want_13 : decode cX5_want 13 = .ok (.return_, 1) := dk_177 (dk_at dksX5_want_0 13 rfl rfl)
abbrev cX5_numberNow : ByteArray := prog_7_method_11_code
def yX5_numberNow : MethodName := ⟨RX5, "numberNow", "(II)I"⟩
def dkwX5_numberNow_2 : List UInt8 := [4, 167, 0, 4, 3, 5, 182, 0, 130, 42, 180, 0, 92, 172]
abbrev dktX5_numberNow_2 : List UInt8 := dkwX5_numberNow_2 ++ []
def dkwX5_numberNow_1 : List UInt8 := [180, 0, 79, 100, 7, 163, 0, 23, 42, 180, 0, 92, 27, 161, 0, 15, 42, 180, 0, 92, 28, 163, 0, 7]
abbrev dktX5_numberNow_1 : List UInt8 := dkwX5_numberNow_1 ++ dktX5_numberNow_2
def dkwX5_numberNow_0 : List UInt8 := [42, 42, 180, 0, 82, 5, 160, 0, 7, 4, 167, 0, 4, 3, 4, 182, 0, 130, 42, 42, 180, 0, 108, 42]
abbrev dktX5_numberNow_0 : List UInt8 := dkwX5_numberNow_0 ++ dktX5_numberNow_1
theorem dksX5_numberNow_0 : cX5_numberNow.data.toList.drop 0 = dktX5_numberNow_0 := by decide +kernel
theorem dksX5_numberNow_1 : cX5_numberNow.data.toList.drop 24 = dktX5_numberNow_1 := dk_seg dksX5_numberNow_0 24 rfl rfl
theorem dksX5_numberNow_2 : cX5_numberNow.data.toList.drop 48 = dktX5_numberNow_2 := dk_seg dksX5_numberNow_1 24 rfl rfl
theorem dX5_numberNow_0 : decode cX5_numberNow 0 = .ok (.aload_n 0, 1) := dk_42 (dk_at dksX5_numberNow_0 0 rfl rfl)
theorem dX5_numberNow_1 : decode cX5_numberNow 1 = .ok (.aload_n 0, 1) := dk_42 (dk_at dksX5_numberNow_0 1 rfl rfl)
theorem dX5_numberNow_2 : decode cX5_numberNow 2 = .ok (.getfield 82, 3) := dk_180 0 82 (dk_at dksX5_numberNow_0 2 rfl rfl)
theorem dX5_numberNow_5 : decode cX5_numberNow 5 = .ok (.iconst 2, 1) := dk_5 (dk_at dksX5_numberNow_0 5 rfl rfl)
theorem dX5_numberNow_6 : decode cX5_numberNow 6 = .ok (.if_icmp .ne 7, 3) := dk_160 0 7 (dk_at dksX5_numberNow_0 6 rfl rfl)
theorem dX5_numberNow_9 : decode cX5_numberNow 9 = .ok (.iconst 1, 1) := dk_4 (dk_at dksX5_numberNow_0 9 rfl rfl)
theorem dX5_numberNow_10 : decode cX5_numberNow 10 = .ok (.goto 4, 3) := dk_167 0 4 (dk_at dksX5_numberNow_0 10 rfl rfl)
theorem dX5_numberNow_13 : decode cX5_numberNow 13 = .ok (.iconst 0, 1) := dk_3 (dk_at dksX5_numberNow_0 13 rfl rfl)
theorem dX5_numberNow_14 : decode cX5_numberNow 14 = .ok (.iconst 1, 1) := dk_4 (dk_at dksX5_numberNow_0 14 rfl rfl)
theorem dX5_numberNow_15 : decode cX5_numberNow 15 = .ok (.invokevirtual 130, 3) := dk_182 0 130 (dk_at dksX5_numberNow_0 15 rfl rfl)
theorem dX5_numberNow_18 : decode cX5_numberNow 18 = .ok (.aload_n 0, 1) := dk_42 (dk_at dksX5_numberNow_0 18 rfl rfl)
theorem dX5_numberNow_19 : decode cX5_numberNow 19 = .ok (.aload_n 0, 1) := dk_42 (dk_at dksX5_numberNow_0 19 rfl rfl)
theorem dX5_numberNow_20 : decode cX5_numberNow 20 = .ok (.getfield 108, 3) := dk_180 0 108 (dk_at dksX5_numberNow_0 20 rfl rfl)
theorem dX5_numberNow_23 : decode cX5_numberNow 23 = .ok (.aload_n 0, 1) := dk_42 (dk_at dksX5_numberNow_0 23 rfl rfl)
theorem dX5_numberNow_24 : decode cX5_numberNow 24 = .ok (.getfield 79, 3) := dk_180 0 79 (dk_at dksX5_numberNow_1 0 rfl rfl)
theorem dX5_numberNow_27 : decode cX5_numberNow 27 = .ok (.isub, 1) := dk_100 (dk_at dksX5_numberNow_1 3 rfl rfl)
theorem dX5_numberNow_28 : decode cX5_numberNow 28 = .ok (.iconst 4, 1) := dk_7 (dk_at dksX5_numberNow_1 4 rfl rfl)
theorem dX5_numberNow_29 : decode cX5_numberNow 29 = .ok (.if_icmp .gt 23, 3) := dk_163 0 23 (dk_at dksX5_numberNow_1 5 rfl rfl)
theorem dX5_numberNow_32 : decode cX5_numberNow 32 = .ok (.aload_n 0, 1) := dk_42 (dk_at dksX5_numberNow_1 8 rfl rfl)
theorem dX5_numberNow_33 : decode cX5_numberNow 33 = .ok (.getfield 92, 3) := dk_180 0 92 (dk_at dksX5_numberNow_1 9 rfl rfl)
theorem dX5_numberNow_36 : decode cX5_numberNow 36 = .ok (.iload_n 1, 1) := dk_27 (dk_at dksX5_numberNow_1 12 rfl rfl)
theorem dX5_numberNow_37 : decode cX5_numberNow 37 = .ok (.if_icmp .lt 15, 3) := dk_161 0 15 (dk_at dksX5_numberNow_1 13 rfl rfl)
theorem dX5_numberNow_40 : decode cX5_numberNow 40 = .ok (.aload_n 0, 1) := dk_42 (dk_at dksX5_numberNow_1 16 rfl rfl)
theorem dX5_numberNow_41 : decode cX5_numberNow 41 = .ok (.getfield 92, 3) := dk_180 0 92 (dk_at dksX5_numberNow_1 17 rfl rfl)
theorem dX5_numberNow_44 : decode cX5_numberNow 44 = .ok (.iload_n 2, 1) := dk_28 (dk_at dksX5_numberNow_1 20 rfl rfl)
theorem dX5_numberNow_45 : decode cX5_numberNow 45 = .ok (.if_icmp .gt 7, 3) := dk_163 0 7 (dk_at dksX5_numberNow_1 21 rfl rfl)
theorem dX5_numberNow_48 : decode cX5_numberNow 48 = .ok (.iconst 1, 1) := dk_4 (dk_at dksX5_numberNow_2 0 rfl rfl)
theorem dX5_numberNow_49 : decode cX5_numberNow 49 = .ok (.goto 4, 3) := dk_167 0 4 (dk_at dksX5_numberNow_2 1 rfl rfl)
theorem dX5_numberNow_52 : decode cX5_numberNow 52 = .ok (.iconst 0, 1) := dk_3 (dk_at dksX5_numberNow_2 4 rfl rfl)
theorem dX5_numberNow_53 : decode cX5_numberNow 53 = .ok (.iconst 2, 1) := dk_5 (dk_at dksX5_numberNow_2 5 rfl rfl)
theorem dX5_numberNow_54 : decode cX5_numberNow 54 = .ok (.invokevirtual 130, 3) := dk_182 0 130 (dk_at dksX5_numberNow_2 6 rfl rfl)
theorem dX5_numberNow_57 : decode cX5_numberNow 57 = .ok (.aload_n 0, 1) := dk_42 (dk_at dksX5_numberNow_2 9 rfl rfl)
theorem dX5_numberNow_58 : decode cX5_numberNow 58 = .ok (.getfield 92, 3) := dk_180 0 92 (dk_at dksX5_numberNow_2 10 rfl rfl)
theorem dX5_numberNow_61 : decode cX5_numberNow 61 = .ok (.ireturn, 1) := dk_172 (dk_at dksX5_numberNow_2 13 rfl rfl)
abbrev cX5_number : ByteArray := prog_7_method_12_code
def yX5_number : MethodName := ⟨RX5, "number", "(II)I"⟩
def dkwX5_number_0 : List UInt8 := [42, 27, 28, 182, 0, 134, 62, 42, 182, 0, 122, 29, 172]
abbrev dktX5_number_0 : List UInt8 := dkwX5_number_0 ++ []
theorem dksX5_number_0 : cX5_number.data.toList.drop 0 = dktX5_number_0 := by decide +kernel
theorem dX5_number_0 : decode cX5_number 0 = .ok (.aload_n 0, 1) := dk_42 (dk_at dksX5_number_0 0 rfl rfl)
theorem dX5_number_1 : decode cX5_number 1 = .ok (.iload_n 1, 1) := dk_27 (dk_at dksX5_number_0 1 rfl rfl)
theorem dX5_number_2 : decode cX5_number 2 = .ok (.iload_n 2, 1) := dk_28 (dk_at dksX5_number_0 2 rfl rfl)
theorem dX5_number_3 : decode cX5_number 3 = .ok (.invokevirtual 134, 3) := dk_182 0 134 (dk_at dksX5_number_0 3 rfl rfl)
theorem dX5_number_6 : decode cX5_number 6 = .ok (.istore_n 3, 1) := dk_62 (dk_at dksX5_number_0 6 rfl rfl)
theorem dX5_number_7 : decode cX5_number 7 = .ok (.aload_n 0, 1) := dk_42 (dk_at dksX5_number_0 7 rfl rfl)
theorem dX5_number_8 : decode cX5_number 8 = .ok (.invokevirtual 122, 3) := dk_182 0 122 (dk_at dksX5_number_0 8 rfl rfl)
theorem dX5_number_11 : decode cX5_number 11 = .ok (.iload_n 3, 1) := dk_29 (dk_at dksX5_number_0 11 rfl rfl)
theorem dX5_number_12 : decode cX5_number 12 = .ok (.ireturn, 1) := dk_172 (dk_at dksX5_number_0 12 rfl rfl)
abbrev cX5_part : ByteArray := prog_7_method_13_code
def yX5_part : MethodName := ⟨RX5, "part", "(I)LHorizonSeam$Form;"⟩
def dkwX5_part_4 : List UInt8 := [4, 167, 0, 4, 3, 6, 182, 0, 130, 42, 182, 0, 122, 187, 0, 154, 89, 28, 183, 0, 156, 176]
abbrev dktX5_part_4 : List UInt8 := dkwX5_part_4 ++ []
def dkwX5_part_3 : List UInt8 := [4, 167, 0, 4, 3, 4, 182, 0, 130, 42, 42, 180, 0, 57, 182, 0, 150, 61, 42, 28, 2, 159, 0, 7]
abbrev dktX5_part_3 : List UInt8 := dkwX5_part_3 ++ dktX5_part_4
def dkwX5_part_2 : List UInt8 := [16, 41, 182, 0, 142, 4, 182, 0, 130, 42, 182, 0, 122, 44, 176, 42, 42, 180, 0, 82, 4, 160, 0, 7]
abbrev dktX5_part_2 : List UInt8 := dkwX5_part_2 ++ dktX5_part_3
def dkwX5_part_1 : List UInt8 := [42, 16, 40, 182, 0, 142, 153, 0, 32, 42, 182, 0, 122, 42, 27, 4, 96, 182, 0, 146, 77, 42, 42]
abbrev dktX5_part_1 : List UInt8 := dkwX5_part_1 ++ dktX5_part_2
def dkwX5_part_0 : List UInt8 := [42, 180, 0, 82, 5, 160, 0, 19, 187, 0, 137, 89, 42, 3, 17, 39, 15, 182, 0, 139, 183, 0, 141, 176]
abbrev dktX5_part_0 : List UInt8 := dkwX5_part_0 ++ dktX5_part_1
theorem dksX5_part_0 : cX5_part.data.toList.drop 0 = dktX5_part_0 := by decide +kernel
theorem dksX5_part_1 : cX5_part.data.toList.drop 24 = dktX5_part_1 := dk_seg dksX5_part_0 24 rfl rfl
theorem dksX5_part_2 : cX5_part.data.toList.drop 47 = dktX5_part_2 := dk_seg dksX5_part_1 23 rfl rfl
theorem dksX5_part_3 : cX5_part.data.toList.drop 71 = dktX5_part_3 := dk_seg dksX5_part_2 24 rfl rfl
theorem dksX5_part_4 : cX5_part.data.toList.drop 95 = dktX5_part_4 := dk_seg dksX5_part_3 24 rfl rfl
theorem dX5_part_0 : decode cX5_part 0 = .ok (.aload_n 0, 1) := dk_42 (dk_at dksX5_part_0 0 rfl rfl)
theorem dX5_part_1 : decode cX5_part 1 = .ok (.getfield 82, 3) := dk_180 0 82 (dk_at dksX5_part_0 1 rfl rfl)
theorem dX5_part_4 : decode cX5_part 4 = .ok (.iconst 2, 1) := dk_5 (dk_at dksX5_part_0 4 rfl rfl)
theorem dX5_part_5 : decode cX5_part 5 = .ok (.if_icmp .ne 19, 3) := dk_160 0 19 (dk_at dksX5_part_0 5 rfl rfl)
theorem dX5_part_8 : decode cX5_part 8 = .ok (.new 137, 3) := dk_187 0 137 (dk_at dksX5_part_0 8 rfl rfl)
theorem dX5_part_11 : decode cX5_part 11 = .ok (.dup, 1) := dk_89 (dk_at dksX5_part_0 11 rfl rfl)
theorem dX5_part_12 : decode cX5_part 12 = .ok (.aload_n 0, 1) := dk_42 (dk_at dksX5_part_0 12 rfl rfl)
theorem dX5_part_13 : decode cX5_part 13 = .ok (.iconst 0, 1) := dk_3 (dk_at dksX5_part_0 13 rfl rfl)
theorem dX5_part_14 : decode cX5_part 14 = .ok (.sipush 9999, 3) := dk_17 39 15 (dk_at dksX5_part_0 14 rfl rfl)
theorem dX5_part_17 : decode cX5_part 17 = .ok (.invokevirtual 139, 3) := dk_182 0 139 (dk_at dksX5_part_0 17 rfl rfl)
theorem dX5_part_20 : decode cX5_part 20 = .ok (.invokespecial 141, 3) := dk_183 0 141 (dk_at dksX5_part_0 20 rfl rfl)
theorem dX5_part_23 : decode cX5_part 23 = .ok (.areturn, 1) := dk_176 (dk_at dksX5_part_0 23 rfl rfl)
theorem dX5_part_24 : decode cX5_part 24 = .ok (.aload_n 0, 1) := dk_42 (dk_at dksX5_part_1 0 rfl rfl)
theorem dX5_part_25 : decode cX5_part 25 = .ok (.bipush 40, 2) := dk_16 40 (dk_at dksX5_part_1 1 rfl rfl)
theorem dX5_part_27 : decode cX5_part 27 = .ok (.invokevirtual 142, 3) := dk_182 0 142 (dk_at dksX5_part_1 3 rfl rfl)
theorem dX5_part_30 : decode cX5_part 30 = .ok (.ifCond .eq 32, 3) := dk_153 0 32 (dk_at dksX5_part_1 6 rfl rfl)
theorem dX5_part_33 : decode cX5_part 33 = .ok (.aload_n 0, 1) := dk_42 (dk_at dksX5_part_1 9 rfl rfl)
theorem dX5_part_34 : decode cX5_part 34 = .ok (.invokevirtual 122, 3) := dk_182 0 122 (dk_at dksX5_part_1 10 rfl rfl)
theorem dX5_part_37 : decode cX5_part 37 = .ok (.aload_n 0, 1) := dk_42 (dk_at dksX5_part_1 13 rfl rfl)
theorem dX5_part_38 : decode cX5_part 38 = .ok (.iload_n 1, 1) := dk_27 (dk_at dksX5_part_1 14 rfl rfl)
theorem dX5_part_39 : decode cX5_part 39 = .ok (.iconst 1, 1) := dk_4 (dk_at dksX5_part_1 15 rfl rfl)
theorem dX5_part_40 : decode cX5_part 40 = .ok (.iadd, 1) := dk_96 (dk_at dksX5_part_1 16 rfl rfl)
theorem dX5_part_41 : decode cX5_part 41 = .ok (.invokevirtual 146, 3) := dk_182 0 146 (dk_at dksX5_part_1 17 rfl rfl)
theorem dX5_part_44 : decode cX5_part 44 = .ok (.astore_n 2, 1) := dk_77 (dk_at dksX5_part_1 20 rfl rfl)
theorem dX5_part_45 : decode cX5_part 45 = .ok (.aload_n 0, 1) := dk_42 (dk_at dksX5_part_1 21 rfl rfl)
theorem dX5_part_46 : decode cX5_part 46 = .ok (.aload_n 0, 1) := dk_42 (dk_at dksX5_part_1 22 rfl rfl)
theorem dX5_part_47 : decode cX5_part 47 = .ok (.bipush 41, 2) := dk_16 41 (dk_at dksX5_part_2 0 rfl rfl)
theorem dX5_part_49 : decode cX5_part 49 = .ok (.invokevirtual 142, 3) := dk_182 0 142 (dk_at dksX5_part_2 2 rfl rfl)
theorem dX5_part_52 : decode cX5_part 52 = .ok (.iconst 1, 1) := dk_4 (dk_at dksX5_part_2 5 rfl rfl)
theorem dX5_part_53 : decode cX5_part 53 = .ok (.invokevirtual 130, 3) := dk_182 0 130 (dk_at dksX5_part_2 6 rfl rfl)
theorem dX5_part_56 : decode cX5_part 56 = .ok (.aload_n 0, 1) := dk_42 (dk_at dksX5_part_2 9 rfl rfl)
theorem dX5_part_57 : decode cX5_part 57 = .ok (.invokevirtual 122, 3) := dk_182 0 122 (dk_at dksX5_part_2 10 rfl rfl)
theorem dX5_part_60 : decode cX5_part 60 = .ok (.aload_n 2, 1) := dk_44 (dk_at dksX5_part_2 13 rfl rfl)
theorem dX5_part_61 : decode cX5_part 61 = .ok (.areturn, 1) := dk_176 (dk_at dksX5_part_2 14 rfl rfl)
theorem dX5_part_62 : decode cX5_part 62 = .ok (.aload_n 0, 1) := dk_42 (dk_at dksX5_part_2 15 rfl rfl)
theorem dX5_part_63 : decode cX5_part 63 = .ok (.aload_n 0, 1) := dk_42 (dk_at dksX5_part_2 16 rfl rfl)
theorem dX5_part_64 : decode cX5_part 64 = .ok (.getfield 82, 3) := dk_180 0 82 (dk_at dksX5_part_2 17 rfl rfl)
theorem dX5_part_67 : decode cX5_part 67 = .ok (.iconst 1, 1) := dk_4 (dk_at dksX5_part_2 20 rfl rfl)
theorem dX5_part_68 : decode cX5_part 68 = .ok (.if_icmp .ne 7, 3) := dk_160 0 7 (dk_at dksX5_part_2 21 rfl rfl)
theorem dX5_part_71 : decode cX5_part 71 = .ok (.iconst 1, 1) := dk_4 (dk_at dksX5_part_3 0 rfl rfl)
theorem dX5_part_72 : decode cX5_part 72 = .ok (.goto 4, 3) := dk_167 0 4 (dk_at dksX5_part_3 1 rfl rfl)
theorem dX5_part_75 : decode cX5_part 75 = .ok (.iconst 0, 1) := dk_3 (dk_at dksX5_part_3 4 rfl rfl)
theorem dX5_part_76 : decode cX5_part 76 = .ok (.iconst 1, 1) := dk_4 (dk_at dksX5_part_3 5 rfl rfl)
theorem dX5_part_77 : decode cX5_part 77 = .ok (.invokevirtual 130, 3) := dk_182 0 130 (dk_at dksX5_part_3 6 rfl rfl)
theorem dX5_part_80 : decode cX5_part 80 = .ok (.aload_n 0, 1) := dk_42 (dk_at dksX5_part_3 9 rfl rfl)
theorem dX5_part_81 : decode cX5_part 81 = .ok (.aload_n 0, 1) := dk_42 (dk_at dksX5_part_3 10 rfl rfl)
theorem dX5_part_82 : decode cX5_part 82 = .ok (.getfield 57, 3) := dk_180 0 57 (dk_at dksX5_part_3 11 rfl rfl)
theorem dX5_part_85 : decode cX5_part 85 = .ok (.invokevirtual 150, 3) := dk_182 0 150 (dk_at dksX5_part_3 14 rfl rfl)
theorem dX5_part_88 : decode cX5_part 88 = .ok (.istore_n 2, 1) := dk_61 (dk_at dksX5_part_3 17 rfl rfl)
theorem dX5_part_89 : decode cX5_part 89 = .ok (.aload_n 0, 1) := dk_42 (dk_at dksX5_part_3 18 rfl rfl)
theorem dX5_part_90 : decode cX5_part 90 = .ok (.iload_n 2, 1) := dk_28 (dk_at dksX5_part_3 19 rfl rfl)
theorem dX5_part_91 : decode cX5_part 91 = .ok (.iconst (-1), 1) := dk_2 (dk_at dksX5_part_3 20 rfl rfl)
theorem dX5_part_92 : decode cX5_part 92 = .ok (.if_icmp .eq 7, 3) := dk_159 0 7 (dk_at dksX5_part_3 21 rfl rfl)
theorem dX5_part_95 : decode cX5_part 95 = .ok (.iconst 1, 1) := dk_4 (dk_at dksX5_part_4 0 rfl rfl)
theorem dX5_part_96 : decode cX5_part 96 = .ok (.goto 4, 3) := dk_167 0 4 (dk_at dksX5_part_4 1 rfl rfl)
theorem dX5_part_99 : decode cX5_part 99 = .ok (.iconst 0, 1) := dk_3 (dk_at dksX5_part_4 4 rfl rfl)
theorem dX5_part_100 : decode cX5_part 100 = .ok (.iconst 3, 1) := dk_6 (dk_at dksX5_part_4 5 rfl rfl)
theorem dX5_part_101 : decode cX5_part 101 = .ok (.invokevirtual 130, 3) := dk_182 0 130 (dk_at dksX5_part_4 6 rfl rfl)
theorem dX5_part_104 : decode cX5_part 104 = .ok (.aload_n 0, 1) := dk_42 (dk_at dksX5_part_4 9 rfl rfl)
theorem dX5_part_105 : decode cX5_part 105 = .ok (.invokevirtual 122, 3) := dk_182 0 122 (dk_at dksX5_part_4 10 rfl rfl)
theorem dX5_part_108 : decode cX5_part 108 = .ok (.new 154, 3) := dk_187 0 154 (dk_at dksX5_part_4 13 rfl rfl)
theorem dX5_part_111 : decode cX5_part 111 = .ok (.dup, 1) := dk_89 (dk_at dksX5_part_4 16 rfl rfl)
theorem dX5_part_112 : decode cX5_part 112 = .ok (.iload_n 2, 1) := dk_28 (dk_at dksX5_part_4 17 rfl rfl)
theorem dX5_part_113 : decode cX5_part 113 = .ok (.invokespecial 156, 3) := dk_183 0 156 (dk_at dksX5_part_4 18 rfl rfl)
theorem dX5_part_116 : decode cX5_part 116 = .ok (.areturn, 1) := dk_176 (dk_at dksX5_part_4 21 rfl rfl)
abbrev cX5_product : ByteArray := prog_7_method_15_code
def yX5_product : MethodName := ⟨RX5, "product", "(I)LHorizonSeam$Form;"⟩
def dkwX5_product_2 : List UInt8 := [167, 255, 223, 44, 182, 0, 173, 176]
abbrev dktX5_product_2 : List UInt8 := dkwX5_product_2 ++ []
def dkwX5_product_1 : List UInt8 := [16, 47, 182, 0, 142, 153, 0, 21, 42, 182, 0, 165, 62, 44, 29, 42, 27, 182, 0, 159, 182, 0, 169]
abbrev dktX5_product_1 : List UInt8 := dkwX5_product_1 ++ dktX5_product_2
def dkwX5_product_0 : List UInt8 := [187, 0, 157, 89, 42, 27, 182, 0, 159, 183, 0, 162, 77, 42, 16, 42, 182, 0, 142, 154, 0, 12, 42]
abbrev dktX5_product_0 : List UInt8 := dkwX5_product_0 ++ dktX5_product_1
theorem dksX5_product_0 : cX5_product.data.toList.drop 0 = dktX5_product_0 := by decide +kernel
theorem dksX5_product_1 : cX5_product.data.toList.drop 23 = dktX5_product_1 := dk_seg dksX5_product_0 23 rfl rfl
theorem dksX5_product_2 : cX5_product.data.toList.drop 46 = dktX5_product_2 := dk_seg dksX5_product_1 23 rfl rfl
theorem dX5_product_0 : decode cX5_product 0 = .ok (.new 157, 3) := dk_187 0 157 (dk_at dksX5_product_0 0 rfl rfl)
theorem dX5_product_3 : decode cX5_product 3 = .ok (.dup, 1) := dk_89 (dk_at dksX5_product_0 3 rfl rfl)
theorem dX5_product_4 : decode cX5_product 4 = .ok (.aload_n 0, 1) := dk_42 (dk_at dksX5_product_0 4 rfl rfl)
theorem dX5_product_5 : decode cX5_product 5 = .ok (.iload_n 1, 1) := dk_27 (dk_at dksX5_product_0 5 rfl rfl)
theorem dX5_product_6 : decode cX5_product 6 = .ok (.invokevirtual 159, 3) := dk_182 0 159 (dk_at dksX5_product_0 6 rfl rfl)
theorem dX5_product_9 : decode cX5_product 9 = .ok (.invokespecial 162, 3) := dk_183 0 162 (dk_at dksX5_product_0 9 rfl rfl)
theorem dX5_product_12 : decode cX5_product 12 = .ok (.astore_n 2, 1) := dk_77 (dk_at dksX5_product_0 12 rfl rfl)
theorem dX5_product_13 : decode cX5_product 13 = .ok (.aload_n 0, 1) := dk_42 (dk_at dksX5_product_0 13 rfl rfl)
theorem dX5_product_14 : decode cX5_product 14 = .ok (.bipush 42, 2) := dk_16 42 (dk_at dksX5_product_0 14 rfl rfl)
theorem dX5_product_16 : decode cX5_product 16 = .ok (.invokevirtual 142, 3) := dk_182 0 142 (dk_at dksX5_product_0 16 rfl rfl)
theorem dX5_product_19 : decode cX5_product 19 = .ok (.ifCond .ne 12, 3) := dk_154 0 12 (dk_at dksX5_product_0 19 rfl rfl)
theorem dX5_product_22 : decode cX5_product 22 = .ok (.aload_n 0, 1) := dk_42 (dk_at dksX5_product_0 22 rfl rfl)
theorem dX5_product_23 : decode cX5_product 23 = .ok (.bipush 47, 2) := dk_16 47 (dk_at dksX5_product_1 0 rfl rfl)
theorem dX5_product_25 : decode cX5_product 25 = .ok (.invokevirtual 142, 3) := dk_182 0 142 (dk_at dksX5_product_1 2 rfl rfl)
theorem dX5_product_28 : decode cX5_product 28 = .ok (.ifCond .eq 21, 3) := dk_153 0 21 (dk_at dksX5_product_1 5 rfl rfl)
theorem dX5_product_31 : decode cX5_product 31 = .ok (.aload_n 0, 1) := dk_42 (dk_at dksX5_product_1 8 rfl rfl)
theorem dX5_product_32 : decode cX5_product 32 = .ok (.invokevirtual 165, 3) := dk_182 0 165 (dk_at dksX5_product_1 9 rfl rfl)
theorem dX5_product_35 : decode cX5_product 35 = .ok (.istore_n 3, 1) := dk_62 (dk_at dksX5_product_1 12 rfl rfl)
theorem dX5_product_36 : decode cX5_product 36 = .ok (.aload_n 2, 1) := dk_44 (dk_at dksX5_product_1 13 rfl rfl)
theorem dX5_product_37 : decode cX5_product 37 = .ok (.iload_n 3, 1) := dk_29 (dk_at dksX5_product_1 14 rfl rfl)
theorem dX5_product_38 : decode cX5_product 38 = .ok (.aload_n 0, 1) := dk_42 (dk_at dksX5_product_1 15 rfl rfl)
theorem dX5_product_39 : decode cX5_product 39 = .ok (.iload_n 1, 1) := dk_27 (dk_at dksX5_product_1 16 rfl rfl)
theorem dX5_product_40 : decode cX5_product 40 = .ok (.invokevirtual 159, 3) := dk_182 0 159 (dk_at dksX5_product_1 17 rfl rfl)
theorem dX5_product_43 : decode cX5_product 43 = .ok (.invokevirtual 169, 3) := dk_182 0 169 (dk_at dksX5_product_1 20 rfl rfl)
theorem dX5_product_46 : decode cX5_product 46 = .ok (.goto (-33), 3) := dk_167 255 223 (dk_at dksX5_product_2 0 rfl rfl)
theorem dX5_product_49 : decode cX5_product 49 = .ok (.aload_n 2, 1) := dk_44 (dk_at dksX5_product_2 3 rfl rfl)
theorem dX5_product_50 : decode cX5_product 50 = .ok (.invokevirtual 173, 3) := dk_182 0 173 (dk_at dksX5_product_2 4 rfl rfl)
theorem dX5_product_53 : decode cX5_product 53 = .ok (.areturn, 1) := dk_176 (dk_at dksX5_product_2 7 rfl rfl)
abbrev cX5_sum : ByteArray := prog_7_method_16_code
def yX5_sum : MethodName := ⟨RX5, "sum", "(I)LHorizonSeam$Form;"⟩
def dkwX5_sum_2 : List UInt8 := [167, 255, 223, 44, 182, 0, 173, 176]
abbrev dktX5_sum_2 : List UInt8 := dkwX5_sum_2 ++ []
def dkwX5_sum_1 : List UInt8 := [16, 45, 182, 0, 142, 153, 0, 21, 42, 182, 0, 165, 62, 44, 29, 42, 27, 182, 0, 177, 182, 0, 169]
abbrev dktX5_sum_1 : List UInt8 := dkwX5_sum_1 ++ dktX5_sum_2
def dkwX5_sum_0 : List UInt8 := [187, 0, 157, 89, 42, 27, 182, 0, 177, 183, 0, 162, 77, 42, 16, 43, 182, 0, 142, 154, 0, 12, 42]
abbrev dktX5_sum_0 : List UInt8 := dkwX5_sum_0 ++ dktX5_sum_1
theorem dksX5_sum_0 : cX5_sum.data.toList.drop 0 = dktX5_sum_0 := by decide +kernel
theorem dksX5_sum_1 : cX5_sum.data.toList.drop 23 = dktX5_sum_1 := dk_seg dksX5_sum_0 23 rfl rfl
theorem dksX5_sum_2 : cX5_sum.data.toList.drop 46 = dktX5_sum_2 := dk_seg dksX5_sum_1 23 rfl rfl
theorem dX5_sum_0 : decode cX5_sum 0 = .ok (.new 157, 3) := dk_187 0 157 (dk_at dksX5_sum_0 0 rfl rfl)
theorem dX5_sum_3 : decode cX5_sum 3 = .ok (.dup, 1) := dk_89 (dk_at dksX5_sum_0 3 rfl rfl)
theorem dX5_sum_4 : decode cX5_sum 4 = .ok (.aload_n 0, 1) := dk_42 (dk_at dksX5_sum_0 4 rfl rfl)
theorem dX5_sum_5 : decode cX5_sum 5 = .ok (.iload_n 1, 1) := dk_27 (dk_at dksX5_sum_0 5 rfl rfl)
theorem dX5_sum_6 : decode cX5_sum 6 = .ok (.invokevirtual 177, 3) := dk_182 0 177 (dk_at dksX5_sum_0 6 rfl rfl)
theorem dX5_sum_9 : decode cX5_sum 9 = .ok (.invokespecial 162, 3) := dk_183 0 162 (dk_at dksX5_sum_0 9 rfl rfl)
theorem dX5_sum_12 : decode cX5_sum 12 = .ok (.astore_n 2, 1) := dk_77 (dk_at dksX5_sum_0 12 rfl rfl)
theorem dX5_sum_13 : decode cX5_sum 13 = .ok (.aload_n 0, 1) := dk_42 (dk_at dksX5_sum_0 13 rfl rfl)
theorem dX5_sum_14 : decode cX5_sum 14 = .ok (.bipush 43, 2) := dk_16 43 (dk_at dksX5_sum_0 14 rfl rfl)
theorem dX5_sum_16 : decode cX5_sum 16 = .ok (.invokevirtual 142, 3) := dk_182 0 142 (dk_at dksX5_sum_0 16 rfl rfl)
theorem dX5_sum_19 : decode cX5_sum 19 = .ok (.ifCond .ne 12, 3) := dk_154 0 12 (dk_at dksX5_sum_0 19 rfl rfl)
theorem dX5_sum_22 : decode cX5_sum 22 = .ok (.aload_n 0, 1) := dk_42 (dk_at dksX5_sum_0 22 rfl rfl)
theorem dX5_sum_23 : decode cX5_sum 23 = .ok (.bipush 45, 2) := dk_16 45 (dk_at dksX5_sum_1 0 rfl rfl)
theorem dX5_sum_25 : decode cX5_sum 25 = .ok (.invokevirtual 142, 3) := dk_182 0 142 (dk_at dksX5_sum_1 2 rfl rfl)
theorem dX5_sum_28 : decode cX5_sum 28 = .ok (.ifCond .eq 21, 3) := dk_153 0 21 (dk_at dksX5_sum_1 5 rfl rfl)
theorem dX5_sum_31 : decode cX5_sum 31 = .ok (.aload_n 0, 1) := dk_42 (dk_at dksX5_sum_1 8 rfl rfl)
theorem dX5_sum_32 : decode cX5_sum 32 = .ok (.invokevirtual 165, 3) := dk_182 0 165 (dk_at dksX5_sum_1 9 rfl rfl)
theorem dX5_sum_35 : decode cX5_sum 35 = .ok (.istore_n 3, 1) := dk_62 (dk_at dksX5_sum_1 12 rfl rfl)
theorem dX5_sum_36 : decode cX5_sum 36 = .ok (.aload_n 2, 1) := dk_44 (dk_at dksX5_sum_1 13 rfl rfl)
theorem dX5_sum_37 : decode cX5_sum 37 = .ok (.iload_n 3, 1) := dk_29 (dk_at dksX5_sum_1 14 rfl rfl)
theorem dX5_sum_38 : decode cX5_sum 38 = .ok (.aload_n 0, 1) := dk_42 (dk_at dksX5_sum_1 15 rfl rfl)
theorem dX5_sum_39 : decode cX5_sum 39 = .ok (.iload_n 1, 1) := dk_27 (dk_at dksX5_sum_1 16 rfl rfl)
theorem dX5_sum_40 : decode cX5_sum 40 = .ok (.invokevirtual 177, 3) := dk_182 0 177 (dk_at dksX5_sum_1 17 rfl rfl)
theorem dX5_sum_43 : decode cX5_sum 43 = .ok (.invokevirtual 169, 3) := dk_182 0 169 (dk_at dksX5_sum_1 20 rfl rfl)
theorem dX5_sum_46 : decode cX5_sum 46 = .ok (.goto (-33), 3) := dk_167 255 223 (dk_at dksX5_sum_2 0 rfl rfl)
theorem dX5_sum_49 : decode cX5_sum 49 = .ok (.aload_n 2, 1) := dk_44 (dk_at dksX5_sum_2 3 rfl rfl)
theorem dX5_sum_50 : decode cX5_sum 50 = .ok (.invokevirtual 173, 3) := dk_182 0 173 (dk_at dksX5_sum_2 4 rfl rfl)
theorem dX5_sum_53 : decode cX5_sum 53 = .ok (.areturn, 1) := dk_176 (dk_at dksX5_sum_2 7 rfl rfl)
abbrev cX5_not : ByteArray := prog_7_method_17_code
def yX5_not : MethodName := ⟨RX5, "not", "(I)LHorizonSeam$Form;"⟩
def dkwX5_not_5 : List UInt8 := [167, 255, 236, 25, 4, 176]
abbrev dktX5_not_5 : List UInt8 := dkwX5_not_5 ++ []
def dkwX5_not_4 : List UInt8 := [54, 5, 21, 5, 28, 162, 0, 20, 187, 0, 185, 89, 25, 4, 183, 0, 187, 58, 4, 132, 5, 1]
abbrev dktX5_not_4 : List UInt8 := dkwX5_not_4 ++ dktX5_not_5
def dkwX5_not_3 : List UInt8 := [182, 0, 165, 54, 4, 45, 21, 4, 42, 27, 182, 0, 182, 182, 0, 169, 45, 182, 0, 173, 58, 4, 3]
abbrev dktX5_not_3 : List UInt8 := dkwX5_not_3 ++ dktX5_not_4
def dkwX5_not_2 : List UInt8 := [183, 0, 162, 78, 42, 16, 60, 182, 0, 142, 154, 0, 12, 42, 16, 61, 182, 0, 142, 153, 0, 20, 42]
abbrev dktX5_not_2 : List UInt8 := dkwX5_not_2 ++ dktX5_not_3
def dkwX5_not_1 : List UInt8 := [182, 0, 130, 132, 2, 1, 42, 182, 0, 122, 167, 255, 224, 187, 0, 157, 89, 42, 27, 182, 0, 182]
abbrev dktX5_not_1 : List UInt8 := dkwX5_not_1 ++ dktX5_not_2
def dkwX5_not_0 : List UInt8 := [3, 61, 42, 18, 180, 182, 0, 118, 153, 0, 29, 42, 28, 16, 6, 162, 0, 7, 4, 167, 0, 4, 3, 5]
abbrev dktX5_not_0 : List UInt8 := dkwX5_not_0 ++ dktX5_not_1
theorem dksX5_not_0 : cX5_not.data.toList.drop 0 = dktX5_not_0 := by decide +kernel
theorem dksX5_not_1 : cX5_not.data.toList.drop 24 = dktX5_not_1 := dk_seg dksX5_not_0 24 rfl rfl
theorem dksX5_not_2 : cX5_not.data.toList.drop 46 = dktX5_not_2 := dk_seg dksX5_not_1 22 rfl rfl
theorem dksX5_not_3 : cX5_not.data.toList.drop 69 = dktX5_not_3 := dk_seg dksX5_not_2 23 rfl rfl
theorem dksX5_not_4 : cX5_not.data.toList.drop 92 = dktX5_not_4 := dk_seg dksX5_not_3 23 rfl rfl
theorem dksX5_not_5 : cX5_not.data.toList.drop 114 = dktX5_not_5 := dk_seg dksX5_not_4 22 rfl rfl
theorem dX5_not_0 : decode cX5_not 0 = .ok (.iconst 0, 1) := dk_3 (dk_at dksX5_not_0 0 rfl rfl)
theorem dX5_not_1 : decode cX5_not 1 = .ok (.istore_n 2, 1) := dk_61 (dk_at dksX5_not_0 1 rfl rfl)
theorem dX5_not_2 : decode cX5_not 2 = .ok (.aload_n 0, 1) := dk_42 (dk_at dksX5_not_0 2 rfl rfl)
theorem dX5_not_3 : decode cX5_not 3 = .ok (.ldc 180, 2) := dk_18 180 (dk_at dksX5_not_0 3 rfl rfl)
theorem dX5_not_5 : decode cX5_not 5 = .ok (.invokevirtual 118, 3) := dk_182 0 118 (dk_at dksX5_not_0 5 rfl rfl)
theorem dX5_not_8 : decode cX5_not 8 = .ok (.ifCond .eq 29, 3) := dk_153 0 29 (dk_at dksX5_not_0 8 rfl rfl)
theorem dX5_not_11 : decode cX5_not 11 = .ok (.aload_n 0, 1) := dk_42 (dk_at dksX5_not_0 11 rfl rfl)
theorem dX5_not_12 : decode cX5_not 12 = .ok (.iload_n 2, 1) := dk_28 (dk_at dksX5_not_0 12 rfl rfl)
theorem dX5_not_13 : decode cX5_not 13 = .ok (.bipush 6, 2) := dk_16 6 (dk_at dksX5_not_0 13 rfl rfl)
theorem dX5_not_15 : decode cX5_not 15 = .ok (.if_icmp .ge 7, 3) := dk_162 0 7 (dk_at dksX5_not_0 15 rfl rfl)
theorem dX5_not_18 : decode cX5_not 18 = .ok (.iconst 1, 1) := dk_4 (dk_at dksX5_not_0 18 rfl rfl)
theorem dX5_not_19 : decode cX5_not 19 = .ok (.goto 4, 3) := dk_167 0 4 (dk_at dksX5_not_0 19 rfl rfl)
theorem dX5_not_22 : decode cX5_not 22 = .ok (.iconst 0, 1) := dk_3 (dk_at dksX5_not_0 22 rfl rfl)
theorem dX5_not_23 : decode cX5_not 23 = .ok (.iconst 2, 1) := dk_5 (dk_at dksX5_not_0 23 rfl rfl)
theorem dX5_not_24 : decode cX5_not 24 = .ok (.invokevirtual 130, 3) := dk_182 0 130 (dk_at dksX5_not_1 0 rfl rfl)
theorem dX5_not_27 : decode cX5_not 27 = .ok (.iinc 2 1, 3) := dk_132 2 1 (dk_at dksX5_not_1 3 rfl rfl)
theorem dX5_not_30 : decode cX5_not 30 = .ok (.aload_n 0, 1) := dk_42 (dk_at dksX5_not_1 6 rfl rfl)
theorem dX5_not_31 : decode cX5_not 31 = .ok (.invokevirtual 122, 3) := dk_182 0 122 (dk_at dksX5_not_1 7 rfl rfl)
theorem dX5_not_34 : decode cX5_not 34 = .ok (.goto (-32), 3) := dk_167 255 224 (dk_at dksX5_not_1 10 rfl rfl)
theorem dX5_not_37 : decode cX5_not 37 = .ok (.new 157, 3) := dk_187 0 157 (dk_at dksX5_not_1 13 rfl rfl)
theorem dX5_not_40 : decode cX5_not 40 = .ok (.dup, 1) := dk_89 (dk_at dksX5_not_1 16 rfl rfl)
theorem dX5_not_41 : decode cX5_not 41 = .ok (.aload_n 0, 1) := dk_42 (dk_at dksX5_not_1 17 rfl rfl)
theorem dX5_not_42 : decode cX5_not 42 = .ok (.iload_n 1, 1) := dk_27 (dk_at dksX5_not_1 18 rfl rfl)
theorem dX5_not_43 : decode cX5_not 43 = .ok (.invokevirtual 182, 3) := dk_182 0 182 (dk_at dksX5_not_1 19 rfl rfl)
theorem dX5_not_46 : decode cX5_not 46 = .ok (.invokespecial 162, 3) := dk_183 0 162 (dk_at dksX5_not_2 0 rfl rfl)
theorem dX5_not_49 : decode cX5_not 49 = .ok (.astore_n 3, 1) := dk_78 (dk_at dksX5_not_2 3 rfl rfl)
theorem dX5_not_50 : decode cX5_not 50 = .ok (.aload_n 0, 1) := dk_42 (dk_at dksX5_not_2 4 rfl rfl)
theorem dX5_not_51 : decode cX5_not 51 = .ok (.bipush 60, 2) := dk_16 60 (dk_at dksX5_not_2 5 rfl rfl)
theorem dX5_not_53 : decode cX5_not 53 = .ok (.invokevirtual 142, 3) := dk_182 0 142 (dk_at dksX5_not_2 7 rfl rfl)
theorem dX5_not_56 : decode cX5_not 56 = .ok (.ifCond .ne 12, 3) := dk_154 0 12 (dk_at dksX5_not_2 10 rfl rfl)
theorem dX5_not_59 : decode cX5_not 59 = .ok (.aload_n 0, 1) := dk_42 (dk_at dksX5_not_2 13 rfl rfl)
theorem dX5_not_60 : decode cX5_not 60 = .ok (.bipush 61, 2) := dk_16 61 (dk_at dksX5_not_2 14 rfl rfl)
theorem dX5_not_62 : decode cX5_not 62 = .ok (.invokevirtual 142, 3) := dk_182 0 142 (dk_at dksX5_not_2 16 rfl rfl)
theorem dX5_not_65 : decode cX5_not 65 = .ok (.ifCond .eq 20, 3) := dk_153 0 20 (dk_at dksX5_not_2 19 rfl rfl)
theorem dX5_not_68 : decode cX5_not 68 = .ok (.aload_n 0, 1) := dk_42 (dk_at dksX5_not_2 22 rfl rfl)
theorem dX5_not_69 : decode cX5_not 69 = .ok (.invokevirtual 165, 3) := dk_182 0 165 (dk_at dksX5_not_3 0 rfl rfl)
theorem dX5_not_72 : decode cX5_not 72 = .ok (.istore 4, 2) := dk_54 4 (dk_at dksX5_not_3 3 rfl rfl)
theorem dX5_not_74 : decode cX5_not 74 = .ok (.aload_n 3, 1) := dk_45 (dk_at dksX5_not_3 5 rfl rfl)
theorem dX5_not_75 : decode cX5_not 75 = .ok (.iload 4, 2) := dk_21 4 (dk_at dksX5_not_3 6 rfl rfl)
theorem dX5_not_77 : decode cX5_not 77 = .ok (.aload_n 0, 1) := dk_42 (dk_at dksX5_not_3 8 rfl rfl)
theorem dX5_not_78 : decode cX5_not 78 = .ok (.iload_n 1, 1) := dk_27 (dk_at dksX5_not_3 9 rfl rfl)
theorem dX5_not_79 : decode cX5_not 79 = .ok (.invokevirtual 182, 3) := dk_182 0 182 (dk_at dksX5_not_3 10 rfl rfl)
theorem dX5_not_82 : decode cX5_not 82 = .ok (.invokevirtual 169, 3) := dk_182 0 169 (dk_at dksX5_not_3 13 rfl rfl)
theorem dX5_not_85 : decode cX5_not 85 = .ok (.aload_n 3, 1) := dk_45 (dk_at dksX5_not_3 16 rfl rfl)
theorem dX5_not_86 : decode cX5_not 86 = .ok (.invokevirtual 173, 3) := dk_182 0 173 (dk_at dksX5_not_3 17 rfl rfl)
theorem dX5_not_89 : decode cX5_not 89 = .ok (.astore 4, 2) := dk_58 4 (dk_at dksX5_not_3 20 rfl rfl)
theorem dX5_not_91 : decode cX5_not 91 = .ok (.iconst 0, 1) := dk_3 (dk_at dksX5_not_3 22 rfl rfl)
theorem dX5_not_92 : decode cX5_not 92 = .ok (.istore 5, 2) := dk_54 5 (dk_at dksX5_not_4 0 rfl rfl)
theorem dX5_not_94 : decode cX5_not 94 = .ok (.iload 5, 2) := dk_21 5 (dk_at dksX5_not_4 2 rfl rfl)
theorem dX5_not_96 : decode cX5_not 96 = .ok (.iload_n 2, 1) := dk_28 (dk_at dksX5_not_4 4 rfl rfl)
theorem dX5_not_97 : decode cX5_not 97 = .ok (.if_icmp .ge 20, 3) := dk_162 0 20 (dk_at dksX5_not_4 5 rfl rfl)
theorem dX5_not_100 : decode cX5_not 100 = .ok (.new 185, 3) := dk_187 0 185 (dk_at dksX5_not_4 8 rfl rfl)
theorem dX5_not_103 : decode cX5_not 103 = .ok (.dup, 1) := dk_89 (dk_at dksX5_not_4 11 rfl rfl)
theorem dX5_not_104 : decode cX5_not 104 = .ok (.aload 4, 2) := dk_25 4 (dk_at dksX5_not_4 12 rfl rfl)
theorem dX5_not_106 : decode cX5_not 106 = .ok (.invokespecial 187, 3) := dk_183 0 187 (dk_at dksX5_not_4 14 rfl rfl)
theorem dX5_not_109 : decode cX5_not 109 = .ok (.astore 4, 2) := dk_58 4 (dk_at dksX5_not_4 17 rfl rfl)
theorem dX5_not_111 : decode cX5_not 111 = .ok (.iinc 5 1, 3) := dk_132 5 1 (dk_at dksX5_not_4 19 rfl rfl)
theorem dX5_not_114 : decode cX5_not 114 = .ok (.goto (-20), 3) := dk_167 255 236 (dk_at dksX5_not_5 0 rfl rfl)
theorem dX5_not_117 : decode cX5_not 117 = .ok (.aload 4, 2) := dk_25 4 (dk_at dksX5_not_5 3 rfl rfl)
theorem dX5_not_119 : decode cX5_not 119 = .ok (.areturn, 1) := dk_176 (dk_at dksX5_not_5 5 rfl rfl)
abbrev cX5_and : ByteArray := prog_7_method_18_code
def yX5_and : MethodName := ⟨RX5, "and", "(I)LHorizonSeam$Form;"⟩
def dkwX5_and_1 : List UInt8 := [16, 38, 42, 27, 182, 0, 188, 182, 0, 169, 167, 255, 236, 44, 182, 0, 173, 176]
abbrev dktX5_and_1 : List UInt8 := dkwX5_and_1 ++ []
def dkwX5_and_0 : List UInt8 := [187, 0, 157, 89, 42, 27, 182, 0, 188, 183, 0, 162, 77, 42, 18, 190, 182, 0, 192, 153, 0, 17, 44]
abbrev dktX5_and_0 : List UInt8 := dkwX5_and_0 ++ dktX5_and_1
theorem dksX5_and_0 : cX5_and.data.toList.drop 0 = dktX5_and_0 := by decide +kernel
theorem dksX5_and_1 : cX5_and.data.toList.drop 23 = dktX5_and_1 := dk_seg dksX5_and_0 23 rfl rfl
theorem dX5_and_0 : decode cX5_and 0 = .ok (.new 157, 3) := dk_187 0 157 (dk_at dksX5_and_0 0 rfl rfl)
theorem dX5_and_3 : decode cX5_and 3 = .ok (.dup, 1) := dk_89 (dk_at dksX5_and_0 3 rfl rfl)
theorem dX5_and_4 : decode cX5_and 4 = .ok (.aload_n 0, 1) := dk_42 (dk_at dksX5_and_0 4 rfl rfl)
theorem dX5_and_5 : decode cX5_and 5 = .ok (.iload_n 1, 1) := dk_27 (dk_at dksX5_and_0 5 rfl rfl)
theorem dX5_and_6 : decode cX5_and 6 = .ok (.invokevirtual 188, 3) := dk_182 0 188 (dk_at dksX5_and_0 6 rfl rfl)
theorem dX5_and_9 : decode cX5_and 9 = .ok (.invokespecial 162, 3) := dk_183 0 162 (dk_at dksX5_and_0 9 rfl rfl)
theorem dX5_and_12 : decode cX5_and 12 = .ok (.astore_n 2, 1) := dk_77 (dk_at dksX5_and_0 12 rfl rfl)
theorem dX5_and_13 : decode cX5_and 13 = .ok (.aload_n 0, 1) := dk_42 (dk_at dksX5_and_0 13 rfl rfl)
theorem dX5_and_14 : decode cX5_and 14 = .ok (.ldc 190, 2) := dk_18 190 (dk_at dksX5_and_0 14 rfl rfl)
theorem dX5_and_16 : decode cX5_and 16 = .ok (.invokevirtual 192, 3) := dk_182 0 192 (dk_at dksX5_and_0 16 rfl rfl)
theorem dX5_and_19 : decode cX5_and 19 = .ok (.ifCond .eq 17, 3) := dk_153 0 17 (dk_at dksX5_and_0 19 rfl rfl)
theorem dX5_and_22 : decode cX5_and 22 = .ok (.aload_n 2, 1) := dk_44 (dk_at dksX5_and_0 22 rfl rfl)
theorem dX5_and_23 : decode cX5_and 23 = .ok (.bipush 38, 2) := dk_16 38 (dk_at dksX5_and_1 0 rfl rfl)
theorem dX5_and_25 : decode cX5_and 25 = .ok (.aload_n 0, 1) := dk_42 (dk_at dksX5_and_1 2 rfl rfl)
theorem dX5_and_26 : decode cX5_and 26 = .ok (.iload_n 1, 1) := dk_27 (dk_at dksX5_and_1 3 rfl rfl)
theorem dX5_and_27 : decode cX5_and 27 = .ok (.invokevirtual 188, 3) := dk_182 0 188 (dk_at dksX5_and_1 4 rfl rfl)
theorem dX5_and_30 : decode cX5_and 30 = .ok (.invokevirtual 169, 3) := dk_182 0 169 (dk_at dksX5_and_1 7 rfl rfl)
theorem dX5_and_33 : decode cX5_and 33 = .ok (.goto (-20), 3) := dk_167 255 236 (dk_at dksX5_and_1 10 rfl rfl)
theorem dX5_and_36 : decode cX5_and 36 = .ok (.aload_n 2, 1) := dk_44 (dk_at dksX5_and_1 13 rfl rfl)
theorem dX5_and_37 : decode cX5_and 37 = .ok (.invokevirtual 173, 3) := dk_182 0 173 (dk_at dksX5_and_1 14 rfl rfl)
theorem dX5_and_40 : decode cX5_and 40 = .ok (.areturn, 1) := dk_176 (dk_at dksX5_and_1 17 rfl rfl)
abbrev cX5_expression : ByteArray := prog_7_method_19_code
def yX5_expression : MethodName := ⟨RX5, "expression", "(I)LHorizonSeam$Form;"⟩
def dkwX5_expression_3 : List UInt8 := [153, 0, 17, 44, 16, 124, 42, 27, 182, 0, 195, 182, 0, 169, 167, 255, 236, 44, 182, 0, 173, 176]
abbrev dktX5_expression_3 : List UInt8 := dkwX5_expression_3 ++ []
def dkwX5_expression_2 : List UInt8 := [5, 182, 0, 130, 187, 0, 157, 89, 42, 27, 182, 0, 195, 183, 0, 162, 77, 42, 18, 197, 182, 0, 192]
abbrev dktX5_expression_2 : List UInt8 := dkwX5_expression_2 ++ dktX5_expression_3
def dkwX5_expression_1 : List UInt8 := [153, 0, 7, 4, 167, 0, 4, 3, 4, 182, 0, 130, 42, 27, 16, 6, 162, 0, 7, 4, 167, 0, 4, 3]
abbrev dktX5_expression_1 : List UInt8 := dkwX5_expression_1 ++ dktX5_expression_2
def dkwX5_expression_0 : List UInt8 := [42, 42, 180, 0, 82, 5, 159, 0, 20, 42, 180, 0, 82, 4, 159, 0, 12, 42, 16, 40, 182, 0, 142]
abbrev dktX5_expression_0 : List UInt8 := dkwX5_expression_0 ++ dktX5_expression_1
theorem dksX5_expression_0 : cX5_expression.data.toList.drop 0 = dktX5_expression_0 := by decide +kernel
theorem dksX5_expression_1 : cX5_expression.data.toList.drop 23 = dktX5_expression_1 := dk_seg dksX5_expression_0 23 rfl rfl
theorem dksX5_expression_2 : cX5_expression.data.toList.drop 47 = dktX5_expression_2 := dk_seg dksX5_expression_1 24 rfl rfl
theorem dksX5_expression_3 : cX5_expression.data.toList.drop 70 = dktX5_expression_3 := dk_seg dksX5_expression_2 23 rfl rfl
theorem dX5_expression_0 : decode cX5_expression 0 = .ok (.aload_n 0, 1) := dk_42 (dk_at dksX5_expression_0 0 rfl rfl)
theorem dX5_expression_1 : decode cX5_expression 1 = .ok (.aload_n 0, 1) := dk_42 (dk_at dksX5_expression_0 1 rfl rfl)
theorem dX5_expression_2 : decode cX5_expression 2 = .ok (.getfield 82, 3) := dk_180 0 82 (dk_at dksX5_expression_0 2 rfl rfl)
theorem dX5_expression_5 : decode cX5_expression 5 = .ok (.iconst 2, 1) := dk_5 (dk_at dksX5_expression_0 5 rfl rfl)
theorem dX5_expression_6 : decode cX5_expression 6 = .ok (.if_icmp .eq 20, 3) := dk_159 0 20 (dk_at dksX5_expression_0 6 rfl rfl)
theorem dX5_expression_9 : decode cX5_expression 9 = .ok (.aload_n 0, 1) := dk_42 (dk_at dksX5_expression_0 9 rfl rfl)
theorem dX5_expression_10 : decode cX5_expression 10 = .ok (.getfield 82, 3) := dk_180 0 82 (dk_at dksX5_expression_0 10 rfl rfl)
theorem dX5_expression_13 : decode cX5_expression 13 = .ok (.iconst 1, 1) := dk_4 (dk_at dksX5_expression_0 13 rfl rfl)
theorem dX5_expression_14 : decode cX5_expression 14 = .ok (.if_icmp .eq 12, 3) := dk_159 0 12 (dk_at dksX5_expression_0 14 rfl rfl)
theorem dX5_expression_17 : decode cX5_expression 17 = .ok (.aload_n 0, 1) := dk_42 (dk_at dksX5_expression_0 17 rfl rfl)
theorem dX5_expression_18 : decode cX5_expression 18 = .ok (.bipush 40, 2) := dk_16 40 (dk_at dksX5_expression_0 18 rfl rfl)
theorem dX5_expression_20 : decode cX5_expression 20 = .ok (.invokevirtual 142, 3) := dk_182 0 142 (dk_at dksX5_expression_0 20 rfl rfl)
theorem dX5_expression_23 : decode cX5_expression 23 = .ok (.ifCond .eq 7, 3) := dk_153 0 7 (dk_at dksX5_expression_1 0 rfl rfl)
theorem dX5_expression_26 : decode cX5_expression 26 = .ok (.iconst 1, 1) := dk_4 (dk_at dksX5_expression_1 3 rfl rfl)
theorem dX5_expression_27 : decode cX5_expression 27 = .ok (.goto 4, 3) := dk_167 0 4 (dk_at dksX5_expression_1 4 rfl rfl)
theorem dX5_expression_30 : decode cX5_expression 30 = .ok (.iconst 0, 1) := dk_3 (dk_at dksX5_expression_1 7 rfl rfl)
theorem dX5_expression_31 : decode cX5_expression 31 = .ok (.iconst 1, 1) := dk_4 (dk_at dksX5_expression_1 8 rfl rfl)
theorem dX5_expression_32 : decode cX5_expression 32 = .ok (.invokevirtual 130, 3) := dk_182 0 130 (dk_at dksX5_expression_1 9 rfl rfl)
theorem dX5_expression_35 : decode cX5_expression 35 = .ok (.aload_n 0, 1) := dk_42 (dk_at dksX5_expression_1 12 rfl rfl)
theorem dX5_expression_36 : decode cX5_expression 36 = .ok (.iload_n 1, 1) := dk_27 (dk_at dksX5_expression_1 13 rfl rfl)
theorem dX5_expression_37 : decode cX5_expression 37 = .ok (.bipush 6, 2) := dk_16 6 (dk_at dksX5_expression_1 14 rfl rfl)
theorem dX5_expression_39 : decode cX5_expression 39 = .ok (.if_icmp .ge 7, 3) := dk_162 0 7 (dk_at dksX5_expression_1 16 rfl rfl)
theorem dX5_expression_42 : decode cX5_expression 42 = .ok (.iconst 1, 1) := dk_4 (dk_at dksX5_expression_1 19 rfl rfl)
theorem dX5_expression_43 : decode cX5_expression 43 = .ok (.goto 4, 3) := dk_167 0 4 (dk_at dksX5_expression_1 20 rfl rfl)
theorem dX5_expression_46 : decode cX5_expression 46 = .ok (.iconst 0, 1) := dk_3 (dk_at dksX5_expression_1 23 rfl rfl)
theorem dX5_expression_47 : decode cX5_expression 47 = .ok (.iconst 2, 1) := dk_5 (dk_at dksX5_expression_2 0 rfl rfl)
theorem dX5_expression_48 : decode cX5_expression 48 = .ok (.invokevirtual 130, 3) := dk_182 0 130 (dk_at dksX5_expression_2 1 rfl rfl)
theorem dX5_expression_51 : decode cX5_expression 51 = .ok (.new 157, 3) := dk_187 0 157 (dk_at dksX5_expression_2 4 rfl rfl)
theorem dX5_expression_54 : decode cX5_expression 54 = .ok (.dup, 1) := dk_89 (dk_at dksX5_expression_2 7 rfl rfl)
theorem dX5_expression_55 : decode cX5_expression 55 = .ok (.aload_n 0, 1) := dk_42 (dk_at dksX5_expression_2 8 rfl rfl)
theorem dX5_expression_56 : decode cX5_expression 56 = .ok (.iload_n 1, 1) := dk_27 (dk_at dksX5_expression_2 9 rfl rfl)
theorem dX5_expression_57 : decode cX5_expression 57 = .ok (.invokevirtual 195, 3) := dk_182 0 195 (dk_at dksX5_expression_2 10 rfl rfl)
theorem dX5_expression_60 : decode cX5_expression 60 = .ok (.invokespecial 162, 3) := dk_183 0 162 (dk_at dksX5_expression_2 13 rfl rfl)
theorem dX5_expression_63 : decode cX5_expression 63 = .ok (.astore_n 2, 1) := dk_77 (dk_at dksX5_expression_2 16 rfl rfl)
theorem dX5_expression_64 : decode cX5_expression 64 = .ok (.aload_n 0, 1) := dk_42 (dk_at dksX5_expression_2 17 rfl rfl)
theorem dX5_expression_65 : decode cX5_expression 65 = .ok (.ldc 197, 2) := dk_18 197 (dk_at dksX5_expression_2 18 rfl rfl)
theorem dX5_expression_67 : decode cX5_expression 67 = .ok (.invokevirtual 192, 3) := dk_182 0 192 (dk_at dksX5_expression_2 20 rfl rfl)
theorem dX5_expression_70 : decode cX5_expression 70 = .ok (.ifCond .eq 17, 3) := dk_153 0 17 (dk_at dksX5_expression_3 0 rfl rfl)
theorem dX5_expression_73 : decode cX5_expression 73 = .ok (.aload_n 2, 1) := dk_44 (dk_at dksX5_expression_3 3 rfl rfl)
theorem dX5_expression_74 : decode cX5_expression 74 = .ok (.bipush 124, 2) := dk_16 124 (dk_at dksX5_expression_3 4 rfl rfl)
theorem dX5_expression_76 : decode cX5_expression 76 = .ok (.aload_n 0, 1) := dk_42 (dk_at dksX5_expression_3 6 rfl rfl)
theorem dX5_expression_77 : decode cX5_expression 77 = .ok (.iload_n 1, 1) := dk_27 (dk_at dksX5_expression_3 7 rfl rfl)
theorem dX5_expression_78 : decode cX5_expression 78 = .ok (.invokevirtual 195, 3) := dk_182 0 195 (dk_at dksX5_expression_3 8 rfl rfl)
theorem dX5_expression_81 : decode cX5_expression 81 = .ok (.invokevirtual 169, 3) := dk_182 0 169 (dk_at dksX5_expression_3 11 rfl rfl)
theorem dX5_expression_84 : decode cX5_expression 84 = .ok (.goto (-20), 3) := dk_167 255 236 (dk_at dksX5_expression_3 14 rfl rfl)
theorem dX5_expression_87 : decode cX5_expression 87 = .ok (.aload_n 2, 1) := dk_44 (dk_at dksX5_expression_3 17 rfl rfl)
theorem dX5_expression_88 : decode cX5_expression 88 = .ok (.invokevirtual 173, 3) := dk_182 0 173 (dk_at dksX5_expression_3 18 rfl rfl)
theorem dX5_expression_91 : decode cX5_expression 91 = .ok (.areturn, 1) := dk_176 (dk_at dksX5_expression_3 21 rfl rfl)
abbrev cX5_stretch : ByteArray := prog_7_method_20_code
def yX5_stretch : MethodName := ⟨RX5, "stretch", "()V"⟩
def dkwX5_stretch_3 : List UInt8 := [182, 0, 139, 79, 42, 89, 180, 0, 199, 4, 96, 181, 0, 199, 177]
abbrev dktX5_stretch_3 : List UInt8 := dkwX5_stretch_3 ++ []
def dkwX5_stretch_2 : List UInt8 := [180, 0, 205, 27, 42, 3, 16, 99, 182, 0, 139, 79, 42, 180, 0, 27, 180, 0, 207, 27, 42, 3, 5]
abbrev dktX5_stretch_2 : List UInt8 := dkwX5_stretch_2 ++ dktX5_stretch_3
def dkwX5_stretch_1 : List UInt8 := [182, 0, 122, 42, 180, 0, 27, 180, 0, 202, 27, 42, 3, 16, 99, 182, 0, 139, 79, 42, 180, 0, 27]
abbrev dktX5_stretch_1 : List UInt8 := dkwX5_stretch_1 ++ dktX5_stretch_2
def dkwX5_stretch_0 : List UInt8 := [42, 180, 0, 199, 60, 42, 27, 16, 12, 162, 0, 7, 4, 167, 0, 4, 3, 5, 182, 0, 130, 42]
abbrev dktX5_stretch_0 : List UInt8 := dkwX5_stretch_0 ++ dktX5_stretch_1
theorem dksX5_stretch_0 : cX5_stretch.data.toList.drop 0 = dktX5_stretch_0 := by decide +kernel
theorem dksX5_stretch_1 : cX5_stretch.data.toList.drop 22 = dktX5_stretch_1 := dk_seg dksX5_stretch_0 22 rfl rfl
theorem dksX5_stretch_2 : cX5_stretch.data.toList.drop 45 = dktX5_stretch_2 := dk_seg dksX5_stretch_1 23 rfl rfl
theorem dksX5_stretch_3 : cX5_stretch.data.toList.drop 68 = dktX5_stretch_3 := dk_seg dksX5_stretch_2 23 rfl rfl
theorem dX5_stretch_0 : decode cX5_stretch 0 = .ok (.aload_n 0, 1) := dk_42 (dk_at dksX5_stretch_0 0 rfl rfl)
theorem dX5_stretch_1 : decode cX5_stretch 1 = .ok (.getfield 199, 3) := dk_180 0 199 (dk_at dksX5_stretch_0 1 rfl rfl)
theorem dX5_stretch_4 : decode cX5_stretch 4 = .ok (.istore_n 1, 1) := dk_60 (dk_at dksX5_stretch_0 4 rfl rfl)
theorem dX5_stretch_5 : decode cX5_stretch 5 = .ok (.aload_n 0, 1) := dk_42 (dk_at dksX5_stretch_0 5 rfl rfl)
theorem dX5_stretch_6 : decode cX5_stretch 6 = .ok (.iload_n 1, 1) := dk_27 (dk_at dksX5_stretch_0 6 rfl rfl)
theorem dX5_stretch_7 : decode cX5_stretch 7 = .ok (.bipush 12, 2) := dk_16 12 (dk_at dksX5_stretch_0 7 rfl rfl)
theorem dX5_stretch_9 : decode cX5_stretch 9 = .ok (.if_icmp .ge 7, 3) := dk_162 0 7 (dk_at dksX5_stretch_0 9 rfl rfl)
theorem dX5_stretch_12 : decode cX5_stretch 12 = .ok (.iconst 1, 1) := dk_4 (dk_at dksX5_stretch_0 12 rfl rfl)
theorem dX5_stretch_13 : decode cX5_stretch 13 = .ok (.goto 4, 3) := dk_167 0 4 (dk_at dksX5_stretch_0 13 rfl rfl)
theorem dX5_stretch_16 : decode cX5_stretch 16 = .ok (.iconst 0, 1) := dk_3 (dk_at dksX5_stretch_0 16 rfl rfl)
theorem dX5_stretch_17 : decode cX5_stretch 17 = .ok (.iconst 2, 1) := dk_5 (dk_at dksX5_stretch_0 17 rfl rfl)
theorem dX5_stretch_18 : decode cX5_stretch 18 = .ok (.invokevirtual 130, 3) := dk_182 0 130 (dk_at dksX5_stretch_0 18 rfl rfl)
theorem dX5_stretch_21 : decode cX5_stretch 21 = .ok (.aload_n 0, 1) := dk_42 (dk_at dksX5_stretch_0 21 rfl rfl)
theorem dX5_stretch_22 : decode cX5_stretch 22 = .ok (.invokevirtual 122, 3) := dk_182 0 122 (dk_at dksX5_stretch_1 0 rfl rfl)
theorem dX5_stretch_25 : decode cX5_stretch 25 = .ok (.aload_n 0, 1) := dk_42 (dk_at dksX5_stretch_1 3 rfl rfl)
theorem dX5_stretch_26 : decode cX5_stretch 26 = .ok (.getfield 27, 3) := dk_180 0 27 (dk_at dksX5_stretch_1 4 rfl rfl)
theorem dX5_stretch_29 : decode cX5_stretch 29 = .ok (.getfield 202, 3) := dk_180 0 202 (dk_at dksX5_stretch_1 7 rfl rfl)
theorem dX5_stretch_32 : decode cX5_stretch 32 = .ok (.iload_n 1, 1) := dk_27 (dk_at dksX5_stretch_1 10 rfl rfl)
theorem dX5_stretch_33 : decode cX5_stretch 33 = .ok (.aload_n 0, 1) := dk_42 (dk_at dksX5_stretch_1 11 rfl rfl)
theorem dX5_stretch_34 : decode cX5_stretch 34 = .ok (.iconst 0, 1) := dk_3 (dk_at dksX5_stretch_1 12 rfl rfl)
theorem dX5_stretch_35 : decode cX5_stretch 35 = .ok (.bipush 99, 2) := dk_16 99 (dk_at dksX5_stretch_1 13 rfl rfl)
theorem dX5_stretch_37 : decode cX5_stretch 37 = .ok (.invokevirtual 139, 3) := dk_182 0 139 (dk_at dksX5_stretch_1 15 rfl rfl)
theorem dX5_stretch_40 : decode cX5_stretch 40 = .ok (.iastore, 1) := dk_79 (dk_at dksX5_stretch_1 18 rfl rfl)
theorem dX5_stretch_41 : decode cX5_stretch 41 = .ok (.aload_n 0, 1) := dk_42 (dk_at dksX5_stretch_1 19 rfl rfl)
theorem dX5_stretch_42 : decode cX5_stretch 42 = .ok (.getfield 27, 3) := dk_180 0 27 (dk_at dksX5_stretch_1 20 rfl rfl)
theorem dX5_stretch_45 : decode cX5_stretch 45 = .ok (.getfield 205, 3) := dk_180 0 205 (dk_at dksX5_stretch_2 0 rfl rfl)
theorem dX5_stretch_48 : decode cX5_stretch 48 = .ok (.iload_n 1, 1) := dk_27 (dk_at dksX5_stretch_2 3 rfl rfl)
theorem dX5_stretch_49 : decode cX5_stretch 49 = .ok (.aload_n 0, 1) := dk_42 (dk_at dksX5_stretch_2 4 rfl rfl)
theorem dX5_stretch_50 : decode cX5_stretch 50 = .ok (.iconst 0, 1) := dk_3 (dk_at dksX5_stretch_2 5 rfl rfl)
theorem dX5_stretch_51 : decode cX5_stretch 51 = .ok (.bipush 99, 2) := dk_16 99 (dk_at dksX5_stretch_2 6 rfl rfl)
theorem dX5_stretch_53 : decode cX5_stretch 53 = .ok (.invokevirtual 139, 3) := dk_182 0 139 (dk_at dksX5_stretch_2 8 rfl rfl)
theorem dX5_stretch_56 : decode cX5_stretch 56 = .ok (.iastore, 1) := dk_79 (dk_at dksX5_stretch_2 11 rfl rfl)
theorem dX5_stretch_57 : decode cX5_stretch 57 = .ok (.aload_n 0, 1) := dk_42 (dk_at dksX5_stretch_2 12 rfl rfl)
theorem dX5_stretch_58 : decode cX5_stretch 58 = .ok (.getfield 27, 3) := dk_180 0 27 (dk_at dksX5_stretch_2 13 rfl rfl)
theorem dX5_stretch_61 : decode cX5_stretch 61 = .ok (.getfield 207, 3) := dk_180 0 207 (dk_at dksX5_stretch_2 16 rfl rfl)
theorem dX5_stretch_64 : decode cX5_stretch 64 = .ok (.iload_n 1, 1) := dk_27 (dk_at dksX5_stretch_2 19 rfl rfl)
theorem dX5_stretch_65 : decode cX5_stretch 65 = .ok (.aload_n 0, 1) := dk_42 (dk_at dksX5_stretch_2 20 rfl rfl)
theorem dX5_stretch_66 : decode cX5_stretch 66 = .ok (.iconst 0, 1) := dk_3 (dk_at dksX5_stretch_2 21 rfl rfl)
theorem dX5_stretch_67 : decode cX5_stretch 67 = .ok (.iconst 2, 1) := dk_5 (dk_at dksX5_stretch_2 22 rfl rfl)
theorem dX5_stretch_68 : decode cX5_stretch 68 = .ok (.invokevirtual 139, 3) := dk_182 0 139 (dk_at dksX5_stretch_3 0 rfl rfl)
theorem dX5_stretch_71 : decode cX5_stretch 71 = .ok (.iastore, 1) := dk_79 (dk_at dksX5_stretch_3 3 rfl rfl)
theorem dX5_stretch_72 : decode cX5_stretch 72 = .ok (.aload_n 0, 1) := dk_42 (dk_at dksX5_stretch_3 4 rfl rfl)
theorem dX5_stretch_73 : decode cX5_stretch 73 = .ok (.dup, 1) := dk_89 (dk_at dksX5_stretch_3 5 rfl rfl)
theorem dX5_stretch_74 : decode cX5_stretch 74 = .ok (.getfield 199, 3) := dk_180 0 199 (dk_at dksX5_stretch_3 6 rfl rfl)
theorem dX5_stretch_77 : decode cX5_stretch 77 = .ok (.iconst 1, 1) := dk_4 (dk_at dksX5_stretch_3 9 rfl rfl)
theorem dX5_stretch_78 : decode cX5_stretch 78 = .ok (.iadd, 1) := dk_96 (dk_at dksX5_stretch_3 10 rfl rfl)
theorem dX5_stretch_79 : decode cX5_stretch 79 = .ok (.putfield 199, 3) := dk_181 0 199 (dk_at dksX5_stretch_3 11 rfl rfl)
theorem dX5_stretch_82 : decode cX5_stretch 82 = .ok (.return_, 1) := dk_177 (dk_at dksX5_stretch_3 14 rfl rfl)
abbrev cX5_woman : ByteArray := prog_7_method_21_code
def yX5_woman : MethodName := ⟨RX5, "woman", "()V"⟩
def dkwX5_woman_4 : List UInt8 := [16, 99, 182, 0, 139, 79, 42, 180, 0, 18, 180, 0, 216, 28, 184, 0, 220, 185, 0, 226, 2, 0, 87, 177]
abbrev dktX5_woman_4 : List UInt8 := dkwX5_woman_4 ++ []
def dkwX5_woman_3 : List UInt8 := [4, 167, 0, 4, 3, 6, 182, 0, 130, 42, 182, 0, 122, 42, 180, 0, 27, 180, 0, 213, 27, 42, 3]
abbrev dktX5_woman_3 : List UInt8 := dkwX5_woman_3 ++ dktX5_woman_4
def dkwX5_woman_2 : List UInt8 := [17, 39, 15, 182, 0, 134, 79, 42, 42, 180, 0, 27, 180, 0, 211, 27, 46, 42, 180, 0, 199, 162, 0, 7]
abbrev dktX5_woman_2 : List UInt8 := dkwX5_woman_2 ++ dktX5_woman_3
def dkwX5_woman_1 : List UInt8 := [42, 182, 0, 122, 42, 3, 16, 9, 182, 0, 139, 61, 42, 180, 0, 27, 180, 0, 211, 27, 42, 3]
abbrev dktX5_woman_1 : List UInt8 := dkwX5_woman_1 ++ dktX5_woman_2
def dkwX5_woman_0 : List UInt8 := [42, 180, 0, 18, 182, 0, 209, 60, 42, 27, 16, 6, 162, 0, 7, 4, 167, 0, 4, 3, 5, 182, 0, 130]
abbrev dktX5_woman_0 : List UInt8 := dkwX5_woman_0 ++ dktX5_woman_1
theorem dksX5_woman_0 : cX5_woman.data.toList.drop 0 = dktX5_woman_0 := by decide +kernel
theorem dksX5_woman_1 : cX5_woman.data.toList.drop 24 = dktX5_woman_1 := dk_seg dksX5_woman_0 24 rfl rfl
theorem dksX5_woman_2 : cX5_woman.data.toList.drop 46 = dktX5_woman_2 := dk_seg dksX5_woman_1 22 rfl rfl
theorem dksX5_woman_3 : cX5_woman.data.toList.drop 70 = dktX5_woman_3 := dk_seg dksX5_woman_2 24 rfl rfl
theorem dksX5_woman_4 : cX5_woman.data.toList.drop 93 = dktX5_woman_4 := dk_seg dksX5_woman_3 23 rfl rfl
theorem dX5_woman_0 : decode cX5_woman 0 = .ok (.aload_n 0, 1) := dk_42 (dk_at dksX5_woman_0 0 rfl rfl)
theorem dX5_woman_1 : decode cX5_woman 1 = .ok (.getfield 18, 3) := dk_180 0 18 (dk_at dksX5_woman_0 1 rfl rfl)
theorem dX5_woman_4 : decode cX5_woman 4 = .ok (.invokevirtual 209, 3) := dk_182 0 209 (dk_at dksX5_woman_0 4 rfl rfl)
theorem dX5_woman_7 : decode cX5_woman 7 = .ok (.istore_n 1, 1) := dk_60 (dk_at dksX5_woman_0 7 rfl rfl)
theorem dX5_woman_8 : decode cX5_woman 8 = .ok (.aload_n 0, 1) := dk_42 (dk_at dksX5_woman_0 8 rfl rfl)
theorem dX5_woman_9 : decode cX5_woman 9 = .ok (.iload_n 1, 1) := dk_27 (dk_at dksX5_woman_0 9 rfl rfl)
theorem dX5_woman_10 : decode cX5_woman 10 = .ok (.bipush 6, 2) := dk_16 6 (dk_at dksX5_woman_0 10 rfl rfl)
theorem dX5_woman_12 : decode cX5_woman 12 = .ok (.if_icmp .ge 7, 3) := dk_162 0 7 (dk_at dksX5_woman_0 12 rfl rfl)
theorem dX5_woman_15 : decode cX5_woman 15 = .ok (.iconst 1, 1) := dk_4 (dk_at dksX5_woman_0 15 rfl rfl)
theorem dX5_woman_16 : decode cX5_woman 16 = .ok (.goto 4, 3) := dk_167 0 4 (dk_at dksX5_woman_0 16 rfl rfl)
theorem dX5_woman_19 : decode cX5_woman 19 = .ok (.iconst 0, 1) := dk_3 (dk_at dksX5_woman_0 19 rfl rfl)
theorem dX5_woman_20 : decode cX5_woman 20 = .ok (.iconst 2, 1) := dk_5 (dk_at dksX5_woman_0 20 rfl rfl)
theorem dX5_woman_21 : decode cX5_woman 21 = .ok (.invokevirtual 130, 3) := dk_182 0 130 (dk_at dksX5_woman_0 21 rfl rfl)
theorem dX5_woman_24 : decode cX5_woman 24 = .ok (.aload_n 0, 1) := dk_42 (dk_at dksX5_woman_1 0 rfl rfl)
theorem dX5_woman_25 : decode cX5_woman 25 = .ok (.invokevirtual 122, 3) := dk_182 0 122 (dk_at dksX5_woman_1 1 rfl rfl)
theorem dX5_woman_28 : decode cX5_woman 28 = .ok (.aload_n 0, 1) := dk_42 (dk_at dksX5_woman_1 4 rfl rfl)
theorem dX5_woman_29 : decode cX5_woman 29 = .ok (.iconst 0, 1) := dk_3 (dk_at dksX5_woman_1 5 rfl rfl)
theorem dX5_woman_30 : decode cX5_woman 30 = .ok (.bipush 9, 2) := dk_16 9 (dk_at dksX5_woman_1 6 rfl rfl)
theorem dX5_woman_32 : decode cX5_woman 32 = .ok (.invokevirtual 139, 3) := dk_182 0 139 (dk_at dksX5_woman_1 8 rfl rfl)
theorem dX5_woman_35 : decode cX5_woman 35 = .ok (.istore_n 2, 1) := dk_61 (dk_at dksX5_woman_1 11 rfl rfl)
theorem dX5_woman_36 : decode cX5_woman 36 = .ok (.aload_n 0, 1) := dk_42 (dk_at dksX5_woman_1 12 rfl rfl)
theorem dX5_woman_37 : decode cX5_woman 37 = .ok (.getfield 27, 3) := dk_180 0 27 (dk_at dksX5_woman_1 13 rfl rfl)
theorem dX5_woman_40 : decode cX5_woman 40 = .ok (.getfield 211, 3) := dk_180 0 211 (dk_at dksX5_woman_1 16 rfl rfl)
theorem dX5_woman_43 : decode cX5_woman 43 = .ok (.iload_n 1, 1) := dk_27 (dk_at dksX5_woman_1 19 rfl rfl)
theorem dX5_woman_44 : decode cX5_woman 44 = .ok (.aload_n 0, 1) := dk_42 (dk_at dksX5_woman_1 20 rfl rfl)
theorem dX5_woman_45 : decode cX5_woman 45 = .ok (.iconst 0, 1) := dk_3 (dk_at dksX5_woman_1 21 rfl rfl)
theorem dX5_woman_46 : decode cX5_woman 46 = .ok (.sipush 9999, 3) := dk_17 39 15 (dk_at dksX5_woman_2 0 rfl rfl)
theorem dX5_woman_49 : decode cX5_woman 49 = .ok (.invokevirtual 134, 3) := dk_182 0 134 (dk_at dksX5_woman_2 3 rfl rfl)
theorem dX5_woman_52 : decode cX5_woman 52 = .ok (.iastore, 1) := dk_79 (dk_at dksX5_woman_2 6 rfl rfl)
theorem dX5_woman_53 : decode cX5_woman 53 = .ok (.aload_n 0, 1) := dk_42 (dk_at dksX5_woman_2 7 rfl rfl)
theorem dX5_woman_54 : decode cX5_woman 54 = .ok (.aload_n 0, 1) := dk_42 (dk_at dksX5_woman_2 8 rfl rfl)
theorem dX5_woman_55 : decode cX5_woman 55 = .ok (.getfield 27, 3) := dk_180 0 27 (dk_at dksX5_woman_2 9 rfl rfl)
theorem dX5_woman_58 : decode cX5_woman 58 = .ok (.getfield 211, 3) := dk_180 0 211 (dk_at dksX5_woman_2 12 rfl rfl)
theorem dX5_woman_61 : decode cX5_woman 61 = .ok (.iload_n 1, 1) := dk_27 (dk_at dksX5_woman_2 15 rfl rfl)
theorem dX5_woman_62 : decode cX5_woman 62 = .ok (.iaload, 1) := dk_46 (dk_at dksX5_woman_2 16 rfl rfl)
theorem dX5_woman_63 : decode cX5_woman 63 = .ok (.aload_n 0, 1) := dk_42 (dk_at dksX5_woman_2 17 rfl rfl)
theorem dX5_woman_64 : decode cX5_woman 64 = .ok (.getfield 199, 3) := dk_180 0 199 (dk_at dksX5_woman_2 18 rfl rfl)
theorem dX5_woman_67 : decode cX5_woman 67 = .ok (.if_icmp .ge 7, 3) := dk_162 0 7 (dk_at dksX5_woman_2 21 rfl rfl)
theorem dX5_woman_70 : decode cX5_woman 70 = .ok (.iconst 1, 1) := dk_4 (dk_at dksX5_woman_3 0 rfl rfl)
theorem dX5_woman_71 : decode cX5_woman 71 = .ok (.goto 4, 3) := dk_167 0 4 (dk_at dksX5_woman_3 1 rfl rfl)
theorem dX5_woman_74 : decode cX5_woman 74 = .ok (.iconst 0, 1) := dk_3 (dk_at dksX5_woman_3 4 rfl rfl)
theorem dX5_woman_75 : decode cX5_woman 75 = .ok (.iconst 3, 1) := dk_6 (dk_at dksX5_woman_3 5 rfl rfl)
theorem dX5_woman_76 : decode cX5_woman 76 = .ok (.invokevirtual 130, 3) := dk_182 0 130 (dk_at dksX5_woman_3 6 rfl rfl)
theorem dX5_woman_79 : decode cX5_woman 79 = .ok (.aload_n 0, 1) := dk_42 (dk_at dksX5_woman_3 9 rfl rfl)
theorem dX5_woman_80 : decode cX5_woman 80 = .ok (.invokevirtual 122, 3) := dk_182 0 122 (dk_at dksX5_woman_3 10 rfl rfl)
theorem dX5_woman_83 : decode cX5_woman 83 = .ok (.aload_n 0, 1) := dk_42 (dk_at dksX5_woman_3 13 rfl rfl)
theorem dX5_woman_84 : decode cX5_woman 84 = .ok (.getfield 27, 3) := dk_180 0 27 (dk_at dksX5_woman_3 14 rfl rfl)
theorem dX5_woman_87 : decode cX5_woman 87 = .ok (.getfield 213, 3) := dk_180 0 213 (dk_at dksX5_woman_3 17 rfl rfl)
theorem dX5_woman_90 : decode cX5_woman 90 = .ok (.iload_n 1, 1) := dk_27 (dk_at dksX5_woman_3 20 rfl rfl)
theorem dX5_woman_91 : decode cX5_woman 91 = .ok (.aload_n 0, 1) := dk_42 (dk_at dksX5_woman_3 21 rfl rfl)
theorem dX5_woman_92 : decode cX5_woman 92 = .ok (.iconst 0, 1) := dk_3 (dk_at dksX5_woman_3 22 rfl rfl)
theorem dX5_woman_93 : decode cX5_woman 93 = .ok (.bipush 99, 2) := dk_16 99 (dk_at dksX5_woman_4 0 rfl rfl)
theorem dX5_woman_95 : decode cX5_woman 95 = .ok (.invokevirtual 139, 3) := dk_182 0 139 (dk_at dksX5_woman_4 2 rfl rfl)
theorem dX5_woman_98 : decode cX5_woman 98 = .ok (.iastore, 1) := dk_79 (dk_at dksX5_woman_4 5 rfl rfl)
theorem dX5_woman_99 : decode cX5_woman 99 = .ok (.aload_n 0, 1) := dk_42 (dk_at dksX5_woman_4 6 rfl rfl)
theorem dX5_woman_100 : decode cX5_woman 100 = .ok (.getfield 18, 3) := dk_180 0 18 (dk_at dksX5_woman_4 7 rfl rfl)
theorem dX5_woman_103 : decode cX5_woman 103 = .ok (.getfield 216, 3) := dk_180 0 216 (dk_at dksX5_woman_4 10 rfl rfl)
theorem dX5_woman_106 : decode cX5_woman 106 = .ok (.iload_n 2, 1) := dk_28 (dk_at dksX5_woman_4 13 rfl rfl)
theorem dX5_woman_107 : decode cX5_woman 107 = .ok (.invokestatic 220, 3) := dk_184 0 220 (dk_at dksX5_woman_4 14 rfl rfl)
theorem dX5_woman_110 : decode cX5_woman 110 = .ok (.invokeinterface 226 2, 5) := by decide +kernel
theorem dX5_woman_115 : decode cX5_woman 115 = .ok (.pop, 1) := dk_87 (dk_at dksX5_woman_4 22 rfl rfl)
theorem dX5_woman_116 : decode cX5_woman 116 = .ok (.return_, 1) := dk_177 (dk_at dksX5_woman_4 23 rfl rfl)
abbrev cX5_knots : ByteArray := prog_7_method_23_code
def yX5_knots : MethodName := ⟨RX5, "knots", "()V"⟩
def dkwX5_knots_6 : List UInt8 := [185, 0, 226, 2, 0, 87, 167, 255, 132, 177]
abbrev dktX5_knots_6 : List UInt8 := dkwX5_knots_6 ++ []
def dkwX5_knots_5 : List UInt8 := [182, 0, 130, 132, 2, 1, 167, 255, 204, 42, 182, 0, 122, 42, 180, 0, 18, 180, 0, 242, 43]
abbrev dktX5_knots_5 : List UInt8 := dkwX5_knots_5 ++ dktX5_knots_6
def dkwX5_knots_4 : List UInt8 := [28, 185, 0, 250, 2, 0, 192, 0, 31, 43, 182, 0, 254, 154, 0, 7, 4, 167, 0, 4, 3, 7]
abbrev dktX5_knots_4 : List UInt8 := dkwX5_knots_4 ++ dktX5_knots_5
def dkwX5_knots_3 : List UInt8 := [28, 42, 180, 0, 18, 180, 0, 242, 185, 0, 245, 1, 0, 162, 0, 42, 42, 42, 180, 0, 18, 180, 0, 242]
abbrev dktX5_knots_3 : List UInt8 := dkwX5_knots_3 ++ dktX5_knots_4
def dkwX5_knots_2 : List UInt8 := [167, 0, 4, 3, 5, 182, 0, 130, 42, 3, 17, 39, 15, 182, 0, 134, 87, 42, 182, 0, 247, 76, 3, 61]
abbrev dktX5_knots_2 : List UInt8 := dkwX5_knots_2 ++ dktX5_knots_3
def dkwX5_knots_1 : List UInt8 := [160, 0, 122, 42, 42, 180, 0, 18, 180, 0, 242, 185, 0, 245, 1, 0, 16, 8, 162, 0, 7, 4]
abbrev dktX5_knots_1 : List UInt8 := dkwX5_knots_1 ++ dktX5_knots_2
def dkwX5_knots_0 : List UInt8 := [42, 42, 180, 0, 82, 5, 160, 0, 7, 4, 167, 0, 4, 3, 4, 182, 0, 130, 42, 180, 0, 82, 5]
abbrev dktX5_knots_0 : List UInt8 := dkwX5_knots_0 ++ dktX5_knots_1
theorem dksX5_knots_0 : cX5_knots.data.toList.drop 0 = dktX5_knots_0 := by decide +kernel
theorem dksX5_knots_1 : cX5_knots.data.toList.drop 23 = dktX5_knots_1 := dk_seg dksX5_knots_0 23 rfl rfl
theorem dksX5_knots_2 : cX5_knots.data.toList.drop 45 = dktX5_knots_2 := dk_seg dksX5_knots_1 22 rfl rfl
theorem dksX5_knots_3 : cX5_knots.data.toList.drop 69 = dktX5_knots_3 := dk_seg dksX5_knots_2 24 rfl rfl
theorem dksX5_knots_4 : cX5_knots.data.toList.drop 93 = dktX5_knots_4 := dk_seg dksX5_knots_3 24 rfl rfl
theorem dksX5_knots_5 : cX5_knots.data.toList.drop 115 = dktX5_knots_5 := dk_seg dksX5_knots_4 22 rfl rfl
theorem dksX5_knots_6 : cX5_knots.data.toList.drop 136 = dktX5_knots_6 := dk_seg dksX5_knots_5 21 rfl rfl
theorem dX5_knots_0 : decode cX5_knots 0 = .ok (.aload_n 0, 1) := dk_42 (dk_at dksX5_knots_0 0 rfl rfl)
theorem dX5_knots_1 : decode cX5_knots 1 = .ok (.aload_n 0, 1) := dk_42 (dk_at dksX5_knots_0 1 rfl rfl)
theorem dX5_knots_2 : decode cX5_knots 2 = .ok (.getfield 82, 3) := dk_180 0 82 (dk_at dksX5_knots_0 2 rfl rfl)
theorem dX5_knots_5 : decode cX5_knots 5 = .ok (.iconst 2, 1) := dk_5 (dk_at dksX5_knots_0 5 rfl rfl)
theorem dX5_knots_6 : decode cX5_knots 6 = .ok (.if_icmp .ne 7, 3) := dk_160 0 7 (dk_at dksX5_knots_0 6 rfl rfl)
theorem dX5_knots_9 : decode cX5_knots 9 = .ok (.iconst 1, 1) := dk_4 (dk_at dksX5_knots_0 9 rfl rfl)
theorem dX5_knots_10 : decode cX5_knots 10 = .ok (.goto 4, 3) := dk_167 0 4 (dk_at dksX5_knots_0 10 rfl rfl)
theorem dX5_knots_13 : decode cX5_knots 13 = .ok (.iconst 0, 1) := dk_3 (dk_at dksX5_knots_0 13 rfl rfl)
theorem dX5_knots_14 : decode cX5_knots 14 = .ok (.iconst 1, 1) := dk_4 (dk_at dksX5_knots_0 14 rfl rfl)
theorem dX5_knots_15 : decode cX5_knots 15 = .ok (.invokevirtual 130, 3) := dk_182 0 130 (dk_at dksX5_knots_0 15 rfl rfl)
theorem dX5_knots_18 : decode cX5_knots 18 = .ok (.aload_n 0, 1) := dk_42 (dk_at dksX5_knots_0 18 rfl rfl)
theorem dX5_knots_19 : decode cX5_knots 19 = .ok (.getfield 82, 3) := dk_180 0 82 (dk_at dksX5_knots_0 19 rfl rfl)
theorem dX5_knots_22 : decode cX5_knots 22 = .ok (.iconst 2, 1) := dk_5 (dk_at dksX5_knots_0 22 rfl rfl)
theorem dX5_knots_23 : decode cX5_knots 23 = .ok (.if_icmp .ne 122, 3) := dk_160 0 122 (dk_at dksX5_knots_1 0 rfl rfl)
theorem dX5_knots_26 : decode cX5_knots 26 = .ok (.aload_n 0, 1) := dk_42 (dk_at dksX5_knots_1 3 rfl rfl)
theorem dX5_knots_27 : decode cX5_knots 27 = .ok (.aload_n 0, 1) := dk_42 (dk_at dksX5_knots_1 4 rfl rfl)
theorem dX5_knots_28 : decode cX5_knots 28 = .ok (.getfield 18, 3) := dk_180 0 18 (dk_at dksX5_knots_1 5 rfl rfl)
theorem dX5_knots_31 : decode cX5_knots 31 = .ok (.getfield 242, 3) := dk_180 0 242 (dk_at dksX5_knots_1 8 rfl rfl)
theorem dX5_knots_34 : decode cX5_knots 34 = .ok (.invokeinterface 245 1, 5) := by decide +kernel
theorem dX5_knots_39 : decode cX5_knots 39 = .ok (.bipush 8, 2) := dk_16 8 (dk_at dksX5_knots_1 16 rfl rfl)
theorem dX5_knots_41 : decode cX5_knots 41 = .ok (.if_icmp .ge 7, 3) := dk_162 0 7 (dk_at dksX5_knots_1 18 rfl rfl)
theorem dX5_knots_44 : decode cX5_knots 44 = .ok (.iconst 1, 1) := dk_4 (dk_at dksX5_knots_1 21 rfl rfl)
theorem dX5_knots_45 : decode cX5_knots 45 = .ok (.goto 4, 3) := dk_167 0 4 (dk_at dksX5_knots_2 0 rfl rfl)
theorem dX5_knots_48 : decode cX5_knots 48 = .ok (.iconst 0, 1) := dk_3 (dk_at dksX5_knots_2 3 rfl rfl)
theorem dX5_knots_49 : decode cX5_knots 49 = .ok (.iconst 2, 1) := dk_5 (dk_at dksX5_knots_2 4 rfl rfl)
theorem dX5_knots_50 : decode cX5_knots 50 = .ok (.invokevirtual 130, 3) := dk_182 0 130 (dk_at dksX5_knots_2 5 rfl rfl)
theorem dX5_knots_53 : decode cX5_knots 53 = .ok (.aload_n 0, 1) := dk_42 (dk_at dksX5_knots_2 8 rfl rfl)
theorem dX5_knots_54 : decode cX5_knots 54 = .ok (.iconst 0, 1) := dk_3 (dk_at dksX5_knots_2 9 rfl rfl)
theorem dX5_knots_55 : decode cX5_knots 55 = .ok (.sipush 9999, 3) := dk_17 39 15 (dk_at dksX5_knots_2 10 rfl rfl)
theorem dX5_knots_58 : decode cX5_knots 58 = .ok (.invokevirtual 134, 3) := dk_182 0 134 (dk_at dksX5_knots_2 13 rfl rfl)
theorem dX5_knots_61 : decode cX5_knots 61 = .ok (.pop, 1) := dk_87 (dk_at dksX5_knots_2 16 rfl rfl)
theorem dX5_knots_62 : decode cX5_knots 62 = .ok (.aload_n 0, 1) := dk_42 (dk_at dksX5_knots_2 17 rfl rfl)
theorem dX5_knots_63 : decode cX5_knots 63 = .ok (.invokevirtual 247, 3) := dk_182 0 247 (dk_at dksX5_knots_2 18 rfl rfl)
theorem dX5_knots_66 : decode cX5_knots 66 = .ok (.astore_n 1, 1) := dk_76 (dk_at dksX5_knots_2 21 rfl rfl)
theorem dX5_knots_67 : decode cX5_knots 67 = .ok (.iconst 0, 1) := dk_3 (dk_at dksX5_knots_2 22 rfl rfl)
theorem dX5_knots_68 : decode cX5_knots 68 = .ok (.istore_n 2, 1) := dk_61 (dk_at dksX5_knots_2 23 rfl rfl)
theorem dX5_knots_69 : decode cX5_knots 69 = .ok (.iload_n 2, 1) := dk_28 (dk_at dksX5_knots_3 0 rfl rfl)
theorem dX5_knots_70 : decode cX5_knots 70 = .ok (.aload_n 0, 1) := dk_42 (dk_at dksX5_knots_3 1 rfl rfl)
theorem dX5_knots_71 : decode cX5_knots 71 = .ok (.getfield 18, 3) := dk_180 0 18 (dk_at dksX5_knots_3 2 rfl rfl)
theorem dX5_knots_74 : decode cX5_knots 74 = .ok (.getfield 242, 3) := dk_180 0 242 (dk_at dksX5_knots_3 5 rfl rfl)
theorem dX5_knots_77 : decode cX5_knots 77 = .ok (.invokeinterface 245 1, 5) := by decide +kernel
theorem dX5_knots_82 : decode cX5_knots 82 = .ok (.if_icmp .ge 42, 3) := dk_162 0 42 (dk_at dksX5_knots_3 13 rfl rfl)
theorem dX5_knots_85 : decode cX5_knots 85 = .ok (.aload_n 0, 1) := dk_42 (dk_at dksX5_knots_3 16 rfl rfl)
theorem dX5_knots_86 : decode cX5_knots 86 = .ok (.aload_n 0, 1) := dk_42 (dk_at dksX5_knots_3 17 rfl rfl)
theorem dX5_knots_87 : decode cX5_knots 87 = .ok (.getfield 18, 3) := dk_180 0 18 (dk_at dksX5_knots_3 18 rfl rfl)
theorem dX5_knots_90 : decode cX5_knots 90 = .ok (.getfield 242, 3) := dk_180 0 242 (dk_at dksX5_knots_3 21 rfl rfl)
theorem dX5_knots_93 : decode cX5_knots 93 = .ok (.iload_n 2, 1) := dk_28 (dk_at dksX5_knots_4 0 rfl rfl)
theorem dX5_knots_94 : decode cX5_knots 94 = .ok (.invokeinterface 250 2, 5) := by decide +kernel
theorem dX5_knots_99 : decode cX5_knots 99 = .ok (.checkcast 31, 3) := dk_192 0 31 (dk_at dksX5_knots_4 6 rfl rfl)
theorem dX5_knots_102 : decode cX5_knots 102 = .ok (.aload_n 1, 1) := dk_43 (dk_at dksX5_knots_4 9 rfl rfl)
theorem dX5_knots_103 : decode cX5_knots 103 = .ok (.invokevirtual 254, 3) := dk_182 0 254 (dk_at dksX5_knots_4 10 rfl rfl)
theorem dX5_knots_106 : decode cX5_knots 106 = .ok (.ifCond .ne 7, 3) := dk_154 0 7 (dk_at dksX5_knots_4 13 rfl rfl)
theorem dX5_knots_109 : decode cX5_knots 109 = .ok (.iconst 1, 1) := dk_4 (dk_at dksX5_knots_4 16 rfl rfl)
theorem dX5_knots_110 : decode cX5_knots 110 = .ok (.goto 4, 3) := dk_167 0 4 (dk_at dksX5_knots_4 17 rfl rfl)
theorem dX5_knots_113 : decode cX5_knots 113 = .ok (.iconst 0, 1) := dk_3 (dk_at dksX5_knots_4 20 rfl rfl)
theorem dX5_knots_114 : decode cX5_knots 114 = .ok (.iconst 4, 1) := dk_7 (dk_at dksX5_knots_4 21 rfl rfl)
theorem dX5_knots_115 : decode cX5_knots 115 = .ok (.invokevirtual 130, 3) := dk_182 0 130 (dk_at dksX5_knots_5 0 rfl rfl)
theorem dX5_knots_118 : decode cX5_knots 118 = .ok (.iinc 2 1, 3) := dk_132 2 1 (dk_at dksX5_knots_5 3 rfl rfl)
theorem dX5_knots_121 : decode cX5_knots 121 = .ok (.goto (-52), 3) := dk_167 255 204 (dk_at dksX5_knots_5 6 rfl rfl)
theorem dX5_knots_124 : decode cX5_knots 124 = .ok (.aload_n 0, 1) := dk_42 (dk_at dksX5_knots_5 9 rfl rfl)
theorem dX5_knots_125 : decode cX5_knots 125 = .ok (.invokevirtual 122, 3) := dk_182 0 122 (dk_at dksX5_knots_5 10 rfl rfl)
theorem dX5_knots_128 : decode cX5_knots 128 = .ok (.aload_n 0, 1) := dk_42 (dk_at dksX5_knots_5 13 rfl rfl)
theorem dX5_knots_129 : decode cX5_knots 129 = .ok (.getfield 18, 3) := dk_180 0 18 (dk_at dksX5_knots_5 14 rfl rfl)
theorem dX5_knots_132 : decode cX5_knots 132 = .ok (.getfield 242, 3) := dk_180 0 242 (dk_at dksX5_knots_5 17 rfl rfl)
theorem dX5_knots_135 : decode cX5_knots 135 = .ok (.aload_n 1, 1) := dk_43 (dk_at dksX5_knots_5 20 rfl rfl)
theorem dX5_knots_136 : decode cX5_knots 136 = .ok (.invokeinterface 226 2, 5) := by decide +kernel
theorem dX5_knots_141 : decode cX5_knots 141 = .ok (.pop, 1) := dk_87 (dk_at dksX5_knots_6 5 rfl rfl)
theorem dX5_knots_142 : decode cX5_knots 142 = .ok (.goto (-124), 3) := dk_167 255 132 (dk_at dksX5_knots_6 6 rfl rfl)
theorem dX5_knots_145 : decode cX5_knots 145 = .ok (.return_, 1) := dk_177 (dk_at dksX5_knots_6 9 rfl rfl)
abbrev cX5_only : ByteArray := prog_7_method_24_code
def yX5_only : MethodName := ⟨RX5, "only", "(I)V"⟩
def dkwX5_only_4 : List UInt8 := [167, 0, 11, 42, 180, 0, 18, 44, 181, 1, 15, 177]
abbrev dktX5_only_4 : List UInt8 := dkwX5_only_4 ++ []
def dkwX5_only_3 : List UInt8 := [167, 0, 33, 42, 3, 182, 0, 146, 77, 27, 5, 160, 0, 14, 42, 180, 0, 18, 44, 181, 1, 12]
abbrev dktX5_only_3 : List UInt8 := dkwX5_only_3 ++ dktX5_only_4
def dkwX5_only_2 : List UInt8 := [167, 0, 55, 27, 4, 160, 0, 20, 42, 180, 0, 18, 42, 4, 16, 9, 182, 0, 139, 181, 1, 10]
abbrev dktX5_only_2 : List UInt8 := dkwX5_only_2 ++ dktX5_only_3
def dkwX5_only_1 : List UInt8 := [180, 1, 1, 4, 27, 120, 128, 181, 1, 1, 42, 182, 0, 122, 27, 154, 0, 10, 42, 182, 1, 8]
abbrev dktX5_only_1 : List UInt8 := dkwX5_only_1 ++ dktX5_only_2
def dkwX5_only_0 : List UInt8 := [42, 42, 180, 1, 1, 27, 184, 1, 4, 154, 0, 7, 4, 167, 0, 4, 3, 8, 182, 0, 130, 42, 89]
abbrev dktX5_only_0 : List UInt8 := dkwX5_only_0 ++ dktX5_only_1
theorem dksX5_only_0 : cX5_only.data.toList.drop 0 = dktX5_only_0 := by decide +kernel
theorem dksX5_only_1 : cX5_only.data.toList.drop 23 = dktX5_only_1 := dk_seg dksX5_only_0 23 rfl rfl
theorem dksX5_only_2 : cX5_only.data.toList.drop 45 = dktX5_only_2 := dk_seg dksX5_only_1 22 rfl rfl
theorem dksX5_only_3 : cX5_only.data.toList.drop 67 = dktX5_only_3 := dk_seg dksX5_only_2 22 rfl rfl
theorem dksX5_only_4 : cX5_only.data.toList.drop 89 = dktX5_only_4 := dk_seg dksX5_only_3 22 rfl rfl
theorem dX5_only_0 : decode cX5_only 0 = .ok (.aload_n 0, 1) := dk_42 (dk_at dksX5_only_0 0 rfl rfl)
theorem dX5_only_1 : decode cX5_only 1 = .ok (.aload_n 0, 1) := dk_42 (dk_at dksX5_only_0 1 rfl rfl)
theorem dX5_only_2 : decode cX5_only 2 = .ok (.getfield 257, 3) := dk_180 1 1 (dk_at dksX5_only_0 2 rfl rfl)
theorem dX5_only_5 : decode cX5_only 5 = .ok (.iload_n 1, 1) := dk_27 (dk_at dksX5_only_0 5 rfl rfl)
theorem dX5_only_6 : decode cX5_only 6 = .ok (.invokestatic 260, 3) := dk_184 1 4 (dk_at dksX5_only_0 6 rfl rfl)
theorem dX5_only_9 : decode cX5_only 9 = .ok (.ifCond .ne 7, 3) := dk_154 0 7 (dk_at dksX5_only_0 9 rfl rfl)
theorem dX5_only_12 : decode cX5_only 12 = .ok (.iconst 1, 1) := dk_4 (dk_at dksX5_only_0 12 rfl rfl)
theorem dX5_only_13 : decode cX5_only 13 = .ok (.goto 4, 3) := dk_167 0 4 (dk_at dksX5_only_0 13 rfl rfl)
theorem dX5_only_16 : decode cX5_only 16 = .ok (.iconst 0, 1) := dk_3 (dk_at dksX5_only_0 16 rfl rfl)
theorem dX5_only_17 : decode cX5_only 17 = .ok (.iconst 5, 1) := dk_8 (dk_at dksX5_only_0 17 rfl rfl)
theorem dX5_only_18 : decode cX5_only 18 = .ok (.invokevirtual 130, 3) := dk_182 0 130 (dk_at dksX5_only_0 18 rfl rfl)
theorem dX5_only_21 : decode cX5_only 21 = .ok (.aload_n 0, 1) := dk_42 (dk_at dksX5_only_0 21 rfl rfl)
theorem dX5_only_22 : decode cX5_only 22 = .ok (.dup, 1) := dk_89 (dk_at dksX5_only_0 22 rfl rfl)
theorem dX5_only_23 : decode cX5_only 23 = .ok (.getfield 257, 3) := dk_180 1 1 (dk_at dksX5_only_1 0 rfl rfl)
theorem dX5_only_26 : decode cX5_only 26 = .ok (.iconst 1, 1) := dk_4 (dk_at dksX5_only_1 3 rfl rfl)
theorem dX5_only_27 : decode cX5_only 27 = .ok (.iload_n 1, 1) := dk_27 (dk_at dksX5_only_1 4 rfl rfl)
theorem dX5_only_28 : decode cX5_only 28 = .ok (.ishl, 1) := dk_120 (dk_at dksX5_only_1 5 rfl rfl)
theorem dX5_only_29 : decode cX5_only 29 = .ok (.ior, 1) := dk_128 (dk_at dksX5_only_1 6 rfl rfl)
theorem dX5_only_30 : decode cX5_only 30 = .ok (.putfield 257, 3) := dk_181 1 1 (dk_at dksX5_only_1 7 rfl rfl)
theorem dX5_only_33 : decode cX5_only 33 = .ok (.aload_n 0, 1) := dk_42 (dk_at dksX5_only_1 10 rfl rfl)
theorem dX5_only_34 : decode cX5_only 34 = .ok (.invokevirtual 122, 3) := dk_182 0 122 (dk_at dksX5_only_1 11 rfl rfl)
theorem dX5_only_37 : decode cX5_only 37 = .ok (.iload_n 1, 1) := dk_27 (dk_at dksX5_only_1 14 rfl rfl)
theorem dX5_only_38 : decode cX5_only 38 = .ok (.ifCond .ne 10, 3) := dk_154 0 10 (dk_at dksX5_only_1 15 rfl rfl)
theorem dX5_only_41 : decode cX5_only 41 = .ok (.aload_n 0, 1) := dk_42 (dk_at dksX5_only_1 18 rfl rfl)
theorem dX5_only_42 : decode cX5_only 42 = .ok (.invokevirtual 264, 3) := dk_182 1 8 (dk_at dksX5_only_1 19 rfl rfl)
theorem dX5_only_45 : decode cX5_only 45 = .ok (.goto 55, 3) := dk_167 0 55 (dk_at dksX5_only_2 0 rfl rfl)
theorem dX5_only_48 : decode cX5_only 48 = .ok (.iload_n 1, 1) := dk_27 (dk_at dksX5_only_2 3 rfl rfl)
theorem dX5_only_49 : decode cX5_only 49 = .ok (.iconst 1, 1) := dk_4 (dk_at dksX5_only_2 4 rfl rfl)
theorem dX5_only_50 : decode cX5_only 50 = .ok (.if_icmp .ne 20, 3) := dk_160 0 20 (dk_at dksX5_only_2 5 rfl rfl)
theorem dX5_only_53 : decode cX5_only 53 = .ok (.aload_n 0, 1) := dk_42 (dk_at dksX5_only_2 8 rfl rfl)
theorem dX5_only_54 : decode cX5_only 54 = .ok (.getfield 18, 3) := dk_180 0 18 (dk_at dksX5_only_2 9 rfl rfl)
theorem dX5_only_57 : decode cX5_only 57 = .ok (.aload_n 0, 1) := dk_42 (dk_at dksX5_only_2 12 rfl rfl)
theorem dX5_only_58 : decode cX5_only 58 = .ok (.iconst 1, 1) := dk_4 (dk_at dksX5_only_2 13 rfl rfl)
theorem dX5_only_59 : decode cX5_only 59 = .ok (.bipush 9, 2) := dk_16 9 (dk_at dksX5_only_2 14 rfl rfl)
theorem dX5_only_61 : decode cX5_only 61 = .ok (.invokevirtual 139, 3) := dk_182 0 139 (dk_at dksX5_only_2 16 rfl rfl)
theorem dX5_only_64 : decode cX5_only 64 = .ok (.putfield 266, 3) := dk_181 1 10 (dk_at dksX5_only_2 19 rfl rfl)
theorem dX5_only_67 : decode cX5_only 67 = .ok (.goto 33, 3) := dk_167 0 33 (dk_at dksX5_only_3 0 rfl rfl)
theorem dX5_only_70 : decode cX5_only 70 = .ok (.aload_n 0, 1) := dk_42 (dk_at dksX5_only_3 3 rfl rfl)
theorem dX5_only_71 : decode cX5_only 71 = .ok (.iconst 0, 1) := dk_3 (dk_at dksX5_only_3 4 rfl rfl)
theorem dX5_only_72 : decode cX5_only 72 = .ok (.invokevirtual 146, 3) := dk_182 0 146 (dk_at dksX5_only_3 5 rfl rfl)
theorem dX5_only_75 : decode cX5_only 75 = .ok (.astore_n 2, 1) := dk_77 (dk_at dksX5_only_3 8 rfl rfl)
theorem dX5_only_76 : decode cX5_only 76 = .ok (.iload_n 1, 1) := dk_27 (dk_at dksX5_only_3 9 rfl rfl)
theorem dX5_only_77 : decode cX5_only 77 = .ok (.iconst 2, 1) := dk_5 (dk_at dksX5_only_3 10 rfl rfl)
theorem dX5_only_78 : decode cX5_only 78 = .ok (.if_icmp .ne 14, 3) := dk_160 0 14 (dk_at dksX5_only_3 11 rfl rfl)
theorem dX5_only_81 : decode cX5_only 81 = .ok (.aload_n 0, 1) := dk_42 (dk_at dksX5_only_3 14 rfl rfl)
theorem dX5_only_82 : decode cX5_only 82 = .ok (.getfield 18, 3) := dk_180 0 18 (dk_at dksX5_only_3 15 rfl rfl)
theorem dX5_only_85 : decode cX5_only 85 = .ok (.aload_n 2, 1) := dk_44 (dk_at dksX5_only_3 18 rfl rfl)
theorem dX5_only_86 : decode cX5_only 86 = .ok (.putfield 268, 3) := dk_181 1 12 (dk_at dksX5_only_3 19 rfl rfl)
theorem dX5_only_89 : decode cX5_only 89 = .ok (.goto 11, 3) := dk_167 0 11 (dk_at dksX5_only_4 0 rfl rfl)
theorem dX5_only_92 : decode cX5_only 92 = .ok (.aload_n 0, 1) := dk_42 (dk_at dksX5_only_4 3 rfl rfl)
theorem dX5_only_93 : decode cX5_only 93 = .ok (.getfield 18, 3) := dk_180 0 18 (dk_at dksX5_only_4 4 rfl rfl)
theorem dX5_only_96 : decode cX5_only 96 = .ok (.aload_n 2, 1) := dk_44 (dk_at dksX5_only_4 7 rfl rfl)
theorem dX5_only_97 : decode cX5_only 97 = .ok (.putfield 271, 3) := dk_181 1 15 (dk_at dksX5_only_4 8 rfl rfl)
theorem dX5_only_100 : decode cX5_only 100 = .ok (.return_, 1) := dk_177 (dk_at dksX5_only_4 11 rfl rfl)
abbrev cX5_line : ByteArray := prog_7_method_25_code
def yX5_line : MethodName := ⟨RX5, "line", "()V"⟩
def dkwX5_line_2 : List UInt8 := [4, 182, 0, 130, 42, 182, 1, 26, 42, 42, 16, 59, 182, 0, 142, 4, 182, 0, 130, 42, 182, 0, 122, 177]
abbrev dktX5_line_2 : List UInt8 := dkwX5_line_2 ++ []
def dkwX5_line_1 : List UInt8 := [19, 1, 20, 182, 0, 118, 153, 0, 10, 42, 182, 1, 22, 167, 0, 19, 42, 42, 19, 1, 24, 182, 0, 118]
abbrev dktX5_line_1 : List UInt8 := dkwX5_line_1 ++ dktX5_line_2
def dkwX5_line_0 : List UInt8 := [42, 42, 180, 0, 41, 182, 0, 150, 60, 27, 2, 159, 0, 11, 42, 27, 182, 1, 17, 167, 0, 36, 42]
abbrev dktX5_line_0 : List UInt8 := dkwX5_line_0 ++ dktX5_line_1
theorem dksX5_line_0 : cX5_line.data.toList.drop 0 = dktX5_line_0 := by decide +kernel
theorem dksX5_line_1 : cX5_line.data.toList.drop 23 = dktX5_line_1 := dk_seg dksX5_line_0 23 rfl rfl
theorem dksX5_line_2 : cX5_line.data.toList.drop 47 = dktX5_line_2 := dk_seg dksX5_line_1 24 rfl rfl
theorem dX5_line_0 : decode cX5_line 0 = .ok (.aload_n 0, 1) := dk_42 (dk_at dksX5_line_0 0 rfl rfl)
theorem dX5_line_1 : decode cX5_line 1 = .ok (.aload_n 0, 1) := dk_42 (dk_at dksX5_line_0 1 rfl rfl)
theorem dX5_line_2 : decode cX5_line 2 = .ok (.getfield 41, 3) := dk_180 0 41 (dk_at dksX5_line_0 2 rfl rfl)
theorem dX5_line_5 : decode cX5_line 5 = .ok (.invokevirtual 150, 3) := dk_182 0 150 (dk_at dksX5_line_0 5 rfl rfl)
theorem dX5_line_8 : decode cX5_line 8 = .ok (.istore_n 1, 1) := dk_60 (dk_at dksX5_line_0 8 rfl rfl)
theorem dX5_line_9 : decode cX5_line 9 = .ok (.iload_n 1, 1) := dk_27 (dk_at dksX5_line_0 9 rfl rfl)
theorem dX5_line_10 : decode cX5_line 10 = .ok (.iconst (-1), 1) := dk_2 (dk_at dksX5_line_0 10 rfl rfl)
theorem dX5_line_11 : decode cX5_line 11 = .ok (.if_icmp .eq 11, 3) := dk_159 0 11 (dk_at dksX5_line_0 11 rfl rfl)
theorem dX5_line_14 : decode cX5_line 14 = .ok (.aload_n 0, 1) := dk_42 (dk_at dksX5_line_0 14 rfl rfl)
theorem dX5_line_15 : decode cX5_line 15 = .ok (.iload_n 1, 1) := dk_27 (dk_at dksX5_line_0 15 rfl rfl)
theorem dX5_line_16 : decode cX5_line 16 = .ok (.invokevirtual 273, 3) := dk_182 1 17 (dk_at dksX5_line_0 16 rfl rfl)
theorem dX5_line_19 : decode cX5_line 19 = .ok (.goto 36, 3) := dk_167 0 36 (dk_at dksX5_line_0 19 rfl rfl)
theorem dX5_line_22 : decode cX5_line 22 = .ok (.aload_n 0, 1) := dk_42 (dk_at dksX5_line_0 22 rfl rfl)
theorem dX5_line_23 : decode cX5_line 23 = .ok (.ldc_w 276, 3) := dk_19 1 20 (dk_at dksX5_line_1 0 rfl rfl)
theorem dX5_line_26 : decode cX5_line 26 = .ok (.invokevirtual 118, 3) := dk_182 0 118 (dk_at dksX5_line_1 3 rfl rfl)
theorem dX5_line_29 : decode cX5_line 29 = .ok (.ifCond .eq 10, 3) := dk_153 0 10 (dk_at dksX5_line_1 6 rfl rfl)
theorem dX5_line_32 : decode cX5_line 32 = .ok (.aload_n 0, 1) := dk_42 (dk_at dksX5_line_1 9 rfl rfl)
theorem dX5_line_33 : decode cX5_line 33 = .ok (.invokevirtual 278, 3) := dk_182 1 22 (dk_at dksX5_line_1 10 rfl rfl)
theorem dX5_line_36 : decode cX5_line 36 = .ok (.goto 19, 3) := dk_167 0 19 (dk_at dksX5_line_1 13 rfl rfl)
theorem dX5_line_39 : decode cX5_line 39 = .ok (.aload_n 0, 1) := dk_42 (dk_at dksX5_line_1 16 rfl rfl)
theorem dX5_line_40 : decode cX5_line 40 = .ok (.aload_n 0, 1) := dk_42 (dk_at dksX5_line_1 17 rfl rfl)
theorem dX5_line_41 : decode cX5_line 41 = .ok (.ldc_w 280, 3) := dk_19 1 24 (dk_at dksX5_line_1 18 rfl rfl)
theorem dX5_line_44 : decode cX5_line 44 = .ok (.invokevirtual 118, 3) := dk_182 0 118 (dk_at dksX5_line_1 21 rfl rfl)
theorem dX5_line_47 : decode cX5_line 47 = .ok (.iconst 1, 1) := dk_4 (dk_at dksX5_line_2 0 rfl rfl)
theorem dX5_line_48 : decode cX5_line 48 = .ok (.invokevirtual 130, 3) := dk_182 0 130 (dk_at dksX5_line_2 1 rfl rfl)
theorem dX5_line_51 : decode cX5_line 51 = .ok (.aload_n 0, 1) := dk_42 (dk_at dksX5_line_2 4 rfl rfl)
theorem dX5_line_52 : decode cX5_line 52 = .ok (.invokevirtual 282, 3) := dk_182 1 26 (dk_at dksX5_line_2 5 rfl rfl)
theorem dX5_line_55 : decode cX5_line 55 = .ok (.aload_n 0, 1) := dk_42 (dk_at dksX5_line_2 8 rfl rfl)
theorem dX5_line_56 : decode cX5_line 56 = .ok (.aload_n 0, 1) := dk_42 (dk_at dksX5_line_2 9 rfl rfl)
theorem dX5_line_57 : decode cX5_line 57 = .ok (.bipush 59, 2) := dk_16 59 (dk_at dksX5_line_2 10 rfl rfl)
theorem dX5_line_59 : decode cX5_line 59 = .ok (.invokevirtual 142, 3) := dk_182 0 142 (dk_at dksX5_line_2 12 rfl rfl)
theorem dX5_line_62 : decode cX5_line 62 = .ok (.iconst 1, 1) := dk_4 (dk_at dksX5_line_2 15 rfl rfl)
theorem dX5_line_63 : decode cX5_line 63 = .ok (.invokevirtual 130, 3) := dk_182 0 130 (dk_at dksX5_line_2 16 rfl rfl)
theorem dX5_line_66 : decode cX5_line 66 = .ok (.aload_n 0, 1) := dk_42 (dk_at dksX5_line_2 19 rfl rfl)
theorem dX5_line_67 : decode cX5_line 67 = .ok (.invokevirtual 122, 3) := dk_182 0 122 (dk_at dksX5_line_2 20 rfl rfl)
theorem dX5_line_70 : decode cX5_line 70 = .ok (.return_, 1) := dk_177 (dk_at dksX5_line_2 23 rfl rfl)
abbrev cX5_read : ByteArray := prog_7_method_26_code
def yX5_read : MethodName := ⟨RX5, "read", "()LHorizonSeam$Ring;"⟩
def dkwX5_read_1 : List UInt8 := [180, 0, 199, 184, 1, 31, 181, 1, 34, 42, 180, 0, 18, 176]
abbrev dktX5_read_1 : List UInt8 := dkwX5_read_1 ++ []
def dkwX5_read_0 : List UInt8 := [42, 182, 0, 122, 42, 180, 0, 82, 153, 0, 10, 42, 182, 1, 28, 167, 255, 245, 42, 180, 0, 18, 6, 42]
abbrev dktX5_read_0 : List UInt8 := dkwX5_read_0 ++ dktX5_read_1
theorem dksX5_read_0 : cX5_read.data.toList.drop 0 = dktX5_read_0 := by decide +kernel
theorem dksX5_read_1 : cX5_read.data.toList.drop 24 = dktX5_read_1 := dk_seg dksX5_read_0 24 rfl rfl
theorem dX5_read_0 : decode cX5_read 0 = .ok (.aload_n 0, 1) := dk_42 (dk_at dksX5_read_0 0 rfl rfl)
theorem dX5_read_1 : decode cX5_read 1 = .ok (.invokevirtual 122, 3) := dk_182 0 122 (dk_at dksX5_read_0 1 rfl rfl)
theorem dX5_read_4 : decode cX5_read 4 = .ok (.aload_n 0, 1) := dk_42 (dk_at dksX5_read_0 4 rfl rfl)
theorem dX5_read_5 : decode cX5_read 5 = .ok (.getfield 82, 3) := dk_180 0 82 (dk_at dksX5_read_0 5 rfl rfl)
theorem dX5_read_8 : decode cX5_read 8 = .ok (.ifCond .eq 10, 3) := dk_153 0 10 (dk_at dksX5_read_0 8 rfl rfl)
theorem dX5_read_11 : decode cX5_read 11 = .ok (.aload_n 0, 1) := dk_42 (dk_at dksX5_read_0 11 rfl rfl)
theorem dX5_read_12 : decode cX5_read 12 = .ok (.invokevirtual 284, 3) := dk_182 1 28 (dk_at dksX5_read_0 12 rfl rfl)
theorem dX5_read_15 : decode cX5_read 15 = .ok (.goto (-11), 3) := dk_167 255 245 (dk_at dksX5_read_0 15 rfl rfl)
theorem dX5_read_18 : decode cX5_read 18 = .ok (.aload_n 0, 1) := dk_42 (dk_at dksX5_read_0 18 rfl rfl)
theorem dX5_read_19 : decode cX5_read 19 = .ok (.getfield 18, 3) := dk_180 0 18 (dk_at dksX5_read_0 19 rfl rfl)
theorem dX5_read_22 : decode cX5_read 22 = .ok (.iconst 3, 1) := dk_6 (dk_at dksX5_read_0 22 rfl rfl)
theorem dX5_read_23 : decode cX5_read 23 = .ok (.aload_n 0, 1) := dk_42 (dk_at dksX5_read_0 23 rfl rfl)
theorem dX5_read_24 : decode cX5_read 24 = .ok (.getfield 199, 3) := dk_180 0 199 (dk_at dksX5_read_1 0 rfl rfl)
theorem dX5_read_27 : decode cX5_read 27 = .ok (.invokestatic 287, 3) := dk_184 1 31 (dk_at dksX5_read_1 3 rfl rfl)
theorem dX5_read_30 : decode cX5_read 30 = .ok (.putfield 290, 3) := dk_181 1 34 (dk_at dksX5_read_1 6 rfl rfl)
theorem dX5_read_33 : decode cX5_read 33 = .ok (.aload_n 0, 1) := dk_42 (dk_at dksX5_read_1 9 rfl rfl)
theorem dX5_read_34 : decode cX5_read 34 = .ok (.getfield 18, 3) := dk_180 0 18 (dk_at dksX5_read_1 10 rfl rfl)
theorem dX5_read_37 : decode cX5_read 37 = .ok (.areturn, 1) := dk_176 (dk_at dksX5_read_1 13 rfl rfl)
