set_option maxRecDepth 100000
abbrev cX1_keep : ByteArray := prog_1_method_17_code
def yX1_keep : MethodName := ⟨RX1, "keep", "()V"⟩
def dkwX1_keep_1 : List UInt8 := [185, 0, 121, 1, 0, 16, 40, 164, 0, 14, 42, 180, 0, 64, 3, 185, 0, 197, 2, 0, 87, 177]
abbrev dktX1_keep_1 : List UInt8 := dkwX1_keep_1 ++ []
def dkwX1_keep_0 : List UInt8 := [42, 180, 0, 64, 42, 180, 0, 40, 182, 0, 189, 185, 0, 193, 2, 0, 87, 42, 180, 0, 64]
abbrev dktX1_keep_0 : List UInt8 := dkwX1_keep_0 ++ dktX1_keep_1
theorem dksX1_keep_0 : cX1_keep.data.toList.drop 0 = dktX1_keep_0 := by decide +kernel
theorem dksX1_keep_1 : cX1_keep.data.toList.drop 21 = dktX1_keep_1 := dk_seg dksX1_keep_0 21 rfl rfl
theorem dX1_keep_0 : decode cX1_keep 0 = .ok (.aload_n 0, 1) := dk_42 (dk_at dksX1_keep_0 0 rfl rfl)
theorem dX1_keep_1 : decode cX1_keep 1 = .ok (.getfield 64, 3) := dk_180 0 64 (dk_at dksX1_keep_0 1 rfl rfl)
theorem dX1_keep_4 : decode cX1_keep 4 = .ok (.aload_n 0, 1) := dk_42 (dk_at dksX1_keep_0 4 rfl rfl)
theorem dX1_keep_5 : decode cX1_keep 5 = .ok (.getfield 40, 3) := dk_180 0 40 (dk_at dksX1_keep_0 5 rfl rfl)
theorem dX1_keep_8 : decode cX1_keep 8 = .ok (.invokevirtual 189, 3) := dk_182 0 189 (dk_at dksX1_keep_0 8 rfl rfl)
theorem dX1_keep_11 : decode cX1_keep 11 = .ok (.invokeinterface 193 2, 5) := by decide +kernel
theorem dX1_keep_16 : decode cX1_keep 16 = .ok (.pop, 1) := dk_87 (dk_at dksX1_keep_0 16 rfl rfl)
theorem dX1_keep_17 : decode cX1_keep 17 = .ok (.aload_n 0, 1) := dk_42 (dk_at dksX1_keep_0 17 rfl rfl)
theorem dX1_keep_18 : decode cX1_keep 18 = .ok (.getfield 64, 3) := dk_180 0 64 (dk_at dksX1_keep_0 18 rfl rfl)
theorem dX1_keep_21 : decode cX1_keep 21 = .ok (.invokeinterface 121 1, 5) := by decide +kernel
theorem dX1_keep_26 : decode cX1_keep 26 = .ok (.bipush 40, 2) := dk_16 40 (dk_at dksX1_keep_1 5 rfl rfl)
theorem dX1_keep_28 : decode cX1_keep 28 = .ok (.if_icmp .le 14, 3) := dk_164 0 14 (dk_at dksX1_keep_1 7 rfl rfl)
theorem dX1_keep_31 : decode cX1_keep 31 = .ok (.aload_n 0, 1) := dk_42 (dk_at dksX1_keep_1 10 rfl rfl)
theorem dX1_keep_32 : decode cX1_keep 32 = .ok (.getfield 64, 3) := dk_180 0 64 (dk_at dksX1_keep_1 11 rfl rfl)
theorem dX1_keep_35 : decode cX1_keep 35 = .ok (.iconst 0, 1) := dk_3 (dk_at dksX1_keep_1 14 rfl rfl)
theorem dX1_keep_36 : decode cX1_keep 36 = .ok (.invokeinterface 197 2, 5) := by decide +kernel
theorem dX1_keep_41 : decode cX1_keep 41 = .ok (.pop, 1) := dk_87 (dk_at dksX1_keep_1 20 rfl rfl)
theorem dX1_keep_42 : decode cX1_keep 42 = .ok (.return_, 1) := dk_177 (dk_at dksX1_keep_1 21 rfl rfl)
abbrev cX1_days : ByteArray := prog_1_method_19_code
def yX1_days : MethodName := ⟨RX1, "days", "(I)I"⟩
def dkwX1_days_2 : List UInt8 := [172]
abbrev dktX1_days_2 : List UInt8 := dkwX1_days_2 ++ []
def dkwX1_days_1 : List UInt8 := [164, 0, 9, 42, 4, 182, 0, 200, 172, 42, 182, 0, 203, 42, 180, 0, 40, 27, 182, 0, 206, 180, 0, 129]
abbrev dktX1_days_1 : List UInt8 := dkwX1_days_1 ++ dktX1_days_2
def dkwX1_days_0 : List UInt8 := [27, 4, 16, 20, 184, 0, 144, 153, 0, 18, 42, 180, 0, 40, 180, 0, 129, 27, 96, 17, 3, 231]
abbrev dktX1_days_0 : List UInt8 := dkwX1_days_0 ++ dktX1_days_1
theorem dksX1_days_0 : cX1_days.data.toList.drop 0 = dktX1_days_0 := by decide +kernel
theorem dksX1_days_1 : cX1_days.data.toList.drop 22 = dktX1_days_1 := dk_seg dksX1_days_0 22 rfl rfl
theorem dksX1_days_2 : cX1_days.data.toList.drop 46 = dktX1_days_2 := dk_seg dksX1_days_1 24 rfl rfl
theorem dX1_days_0 : decode cX1_days 0 = .ok (.iload_n 1, 1) := dk_27 (dk_at dksX1_days_0 0 rfl rfl)
theorem dX1_days_1 : decode cX1_days 1 = .ok (.iconst 1, 1) := dk_4 (dk_at dksX1_days_0 1 rfl rfl)
theorem dX1_days_2 : decode cX1_days 2 = .ok (.bipush 20, 2) := dk_16 20 (dk_at dksX1_days_0 2 rfl rfl)
theorem dX1_days_4 : decode cX1_days 4 = .ok (.invokestatic 144, 3) := dk_184 0 144 (dk_at dksX1_days_0 4 rfl rfl)
theorem dX1_days_7 : decode cX1_days 7 = .ok (.ifCond .eq 18, 3) := dk_153 0 18 (dk_at dksX1_days_0 7 rfl rfl)
theorem dX1_days_10 : decode cX1_days 10 = .ok (.aload_n 0, 1) := dk_42 (dk_at dksX1_days_0 10 rfl rfl)
theorem dX1_days_11 : decode cX1_days 11 = .ok (.getfield 40, 3) := dk_180 0 40 (dk_at dksX1_days_0 11 rfl rfl)
theorem dX1_days_14 : decode cX1_days 14 = .ok (.getfield 129, 3) := dk_180 0 129 (dk_at dksX1_days_0 14 rfl rfl)
theorem dX1_days_17 : decode cX1_days 17 = .ok (.iload_n 1, 1) := dk_27 (dk_at dksX1_days_0 17 rfl rfl)
theorem dX1_days_18 : decode cX1_days 18 = .ok (.iadd, 1) := dk_96 (dk_at dksX1_days_0 18 rfl rfl)
theorem dX1_days_19 : decode cX1_days 19 = .ok (.sipush 999, 3) := dk_17 3 231 (dk_at dksX1_days_0 19 rfl rfl)
theorem dX1_days_22 : decode cX1_days 22 = .ok (.if_icmp .le 9, 3) := dk_164 0 9 (dk_at dksX1_days_1 0 rfl rfl)
theorem dX1_days_25 : decode cX1_days 25 = .ok (.aload_n 0, 1) := dk_42 (dk_at dksX1_days_1 3 rfl rfl)
theorem dX1_days_26 : decode cX1_days 26 = .ok (.iconst 1, 1) := dk_4 (dk_at dksX1_days_1 4 rfl rfl)
theorem dX1_days_27 : decode cX1_days 27 = .ok (.invokevirtual 200, 3) := dk_182 0 200 (dk_at dksX1_days_1 5 rfl rfl)
theorem dX1_days_30 : decode cX1_days 30 = .ok (.ireturn, 1) := dk_172 (dk_at dksX1_days_1 8 rfl rfl)
theorem dX1_days_31 : decode cX1_days 31 = .ok (.aload_n 0, 1) := dk_42 (dk_at dksX1_days_1 9 rfl rfl)
theorem dX1_days_32 : decode cX1_days 32 = .ok (.invokevirtual 203, 3) := dk_182 0 203 (dk_at dksX1_days_1 10 rfl rfl)
theorem dX1_days_35 : decode cX1_days 35 = .ok (.aload_n 0, 1) := dk_42 (dk_at dksX1_days_1 13 rfl rfl)
theorem dX1_days_36 : decode cX1_days 36 = .ok (.getfield 40, 3) := dk_180 0 40 (dk_at dksX1_days_1 14 rfl rfl)
theorem dX1_days_39 : decode cX1_days 39 = .ok (.iload_n 1, 1) := dk_27 (dk_at dksX1_days_1 17 rfl rfl)
theorem dX1_days_40 : decode cX1_days 40 = .ok (.invokevirtual 206, 3) := dk_182 0 206 (dk_at dksX1_days_1 18 rfl rfl)
theorem dX1_days_43 : decode cX1_days 43 = .ok (.getfield 129, 3) := dk_180 0 129 (dk_at dksX1_days_1 21 rfl rfl)
theorem dX1_days_46 : decode cX1_days 46 = .ok (.ireturn, 1) := dk_172 (dk_at dksX1_days_2 0 rfl rfl)
abbrev cX1_undo : ByteArray := prog_1_method_25_code
def yX1_undo : MethodName := ⟨RX1, "undo", "()I"⟩
def dkwX1_undo_2 : List UInt8 := [180, 0, 64, 185, 0, 121, 1, 0, 172]
abbrev dktX1_undo_2 : List UInt8 := dkwX1_undo_2 ++ []
def dkwX1_undo_1 : List UInt8 := [185, 0, 121, 1, 0, 4, 100, 185, 0, 197, 2, 0, 192, 0, 35, 182, 0, 189, 181, 0, 40, 42]
abbrev dktX1_undo_1 : List UInt8 := dkwX1_undo_1 ++ dktX1_undo_2
def dkwX1_undo_0 : List UInt8 := [42, 180, 0, 64, 185, 0, 220, 1, 0, 153, 0, 5, 2, 172, 42, 42, 180, 0, 64, 42, 180, 0, 64]
abbrev dktX1_undo_0 : List UInt8 := dkwX1_undo_0 ++ dktX1_undo_1
theorem dksX1_undo_0 : cX1_undo.data.toList.drop 0 = dktX1_undo_0 := by decide +kernel
theorem dksX1_undo_1 : cX1_undo.data.toList.drop 23 = dktX1_undo_1 := dk_seg dksX1_undo_0 23 rfl rfl
theorem dksX1_undo_2 : cX1_undo.data.toList.drop 45 = dktX1_undo_2 := dk_seg dksX1_undo_1 22 rfl rfl
theorem dX1_undo_0 : decode cX1_undo 0 = .ok (.aload_n 0, 1) := dk_42 (dk_at dksX1_undo_0 0 rfl rfl)
theorem dX1_undo_1 : decode cX1_undo 1 = .ok (.getfield 64, 3) := dk_180 0 64 (dk_at dksX1_undo_0 1 rfl rfl)
theorem dX1_undo_4 : decode cX1_undo 4 = .ok (.invokeinterface 220 1, 5) := by decide +kernel
theorem dX1_undo_9 : decode cX1_undo 9 = .ok (.ifCond .eq 5, 3) := dk_153 0 5 (dk_at dksX1_undo_0 9 rfl rfl)
theorem dX1_undo_12 : decode cX1_undo 12 = .ok (.iconst (-1), 1) := dk_2 (dk_at dksX1_undo_0 12 rfl rfl)
theorem dX1_undo_13 : decode cX1_undo 13 = .ok (.ireturn, 1) := dk_172 (dk_at dksX1_undo_0 13 rfl rfl)
theorem dX1_undo_14 : decode cX1_undo 14 = .ok (.aload_n 0, 1) := dk_42 (dk_at dksX1_undo_0 14 rfl rfl)
theorem dX1_undo_15 : decode cX1_undo 15 = .ok (.aload_n 0, 1) := dk_42 (dk_at dksX1_undo_0 15 rfl rfl)
theorem dX1_undo_16 : decode cX1_undo 16 = .ok (.getfield 64, 3) := dk_180 0 64 (dk_at dksX1_undo_0 16 rfl rfl)
theorem dX1_undo_19 : decode cX1_undo 19 = .ok (.aload_n 0, 1) := dk_42 (dk_at dksX1_undo_0 19 rfl rfl)
theorem dX1_undo_20 : decode cX1_undo 20 = .ok (.getfield 64, 3) := dk_180 0 64 (dk_at dksX1_undo_0 20 rfl rfl)
theorem dX1_undo_23 : decode cX1_undo 23 = .ok (.invokeinterface 121 1, 5) := by decide +kernel
theorem dX1_undo_28 : decode cX1_undo 28 = .ok (.iconst 1, 1) := dk_4 (dk_at dksX1_undo_1 5 rfl rfl)
theorem dX1_undo_29 : decode cX1_undo 29 = .ok (.isub, 1) := dk_100 (dk_at dksX1_undo_1 6 rfl rfl)
theorem dX1_undo_30 : decode cX1_undo 30 = .ok (.invokeinterface 197 2, 5) := by decide +kernel
theorem dX1_undo_35 : decode cX1_undo 35 = .ok (.checkcast 35, 3) := dk_192 0 35 (dk_at dksX1_undo_1 12 rfl rfl)
theorem dX1_undo_38 : decode cX1_undo 38 = .ok (.invokevirtual 189, 3) := dk_182 0 189 (dk_at dksX1_undo_1 15 rfl rfl)
theorem dX1_undo_41 : decode cX1_undo 41 = .ok (.putfield 40, 3) := dk_181 0 40 (dk_at dksX1_undo_1 18 rfl rfl)
theorem dX1_undo_44 : decode cX1_undo 44 = .ok (.aload_n 0, 1) := dk_42 (dk_at dksX1_undo_1 21 rfl rfl)
theorem dX1_undo_45 : decode cX1_undo 45 = .ok (.getfield 64, 3) := dk_180 0 64 (dk_at dksX1_undo_2 0 rfl rfl)
theorem dX1_undo_48 : decode cX1_undo 48 = .ok (.invokeinterface 121 1, 5) := by decide +kernel
theorem dX1_undo_53 : decode cX1_undo 53 = .ok (.ireturn, 1) := dk_172 (dk_at dksX1_undo_2 8 rfl rfl)
abbrev cX1_forget : ByteArray := prog_1_method_53_code
def yX1_forget : MethodName := ⟨RX1, "forget", "()V"⟩
def dkwX1_forget_0 : List UInt8 := [42, 187, 0, 61, 89, 183, 0, 63, 181, 0, 68, 177]
abbrev dktX1_forget_0 : List UInt8 := dkwX1_forget_0 ++ []
theorem dksX1_forget_0 : cX1_forget.data.toList.drop 0 = dktX1_forget_0 := by decide +kernel
theorem dX1_forget_0 : decode cX1_forget 0 = .ok (.aload_n 0, 1) := dk_42 (dk_at dksX1_forget_0 0 rfl rfl)
theorem dX1_forget_1 : decode cX1_forget 1 = .ok (.new 61, 3) := dk_187 0 61 (dk_at dksX1_forget_0 1 rfl rfl)
theorem dX1_forget_4 : decode cX1_forget 4 = .ok (.dup, 1) := dk_89 (dk_at dksX1_forget_0 4 rfl rfl)
theorem dX1_forget_5 : decode cX1_forget 5 = .ok (.invokespecial 63, 3) := dk_183 0 63 (dk_at dksX1_forget_0 5 rfl rfl)
theorem dX1_forget_8 : decode cX1_forget 8 = .ok (.putfield 68, 3) := dk_181 0 68 (dk_at dksX1_forget_0 8 rfl rfl)
theorem dX1_forget_11 : decode cX1_forget 11 = .ok (.return_, 1) := dk_177 (dk_at dksX1_forget_0 11 rfl rfl)
abbrev cX1_mend : ByteArray := prog_1_method_20_code
def yX1_mend : MethodName := ⟨RX1, "mend", "(I)I"⟩
def dkwX1_mend_2 : List UInt8 := [180, 0, 108, 27, 46, 46, 172]
abbrev dktX1_mend_2 : List UInt8 := dkwX1_mend_2 ++ []
def dkwX1_mend_1 : List UInt8 := [182, 0, 203, 42, 180, 0, 40, 27, 182, 0, 210, 42, 180, 0, 40, 180, 0, 158, 42, 180, 0, 40]
abbrev dktX1_mend_1 : List UInt8 := dkwX1_mend_1 ++ dktX1_mend_2
def dkwX1_mend_0 : List UInt8 := [42, 27, 182, 0, 170, 42, 180, 0, 40, 180, 0, 105, 27, 46, 154, 0, 9, 42, 4, 182, 0, 200, 172, 42]
abbrev dktX1_mend_0 : List UInt8 := dkwX1_mend_0 ++ dktX1_mend_1
theorem dksX1_mend_0 : cX1_mend.data.toList.drop 0 = dktX1_mend_0 := by decide +kernel
theorem dksX1_mend_1 : cX1_mend.data.toList.drop 24 = dktX1_mend_1 := dk_seg dksX1_mend_0 24 rfl rfl
theorem dksX1_mend_2 : cX1_mend.data.toList.drop 46 = dktX1_mend_2 := dk_seg dksX1_mend_1 22 rfl rfl
theorem dX1_mend_0 : decode cX1_mend 0 = .ok (.aload_n 0, 1) := dk_42 (dk_at dksX1_mend_0 0 rfl rfl)
theorem dX1_mend_1 : decode cX1_mend 1 = .ok (.iload_n 1, 1) := dk_27 (dk_at dksX1_mend_0 1 rfl rfl)
theorem dX1_mend_2 : decode cX1_mend 2 = .ok (.invokevirtual 170, 3) := dk_182 0 170 (dk_at dksX1_mend_0 2 rfl rfl)
theorem dX1_mend_5 : decode cX1_mend 5 = .ok (.aload_n 0, 1) := dk_42 (dk_at dksX1_mend_0 5 rfl rfl)
theorem dX1_mend_6 : decode cX1_mend 6 = .ok (.getfield 40, 3) := dk_180 0 40 (dk_at dksX1_mend_0 6 rfl rfl)
theorem dX1_mend_9 : decode cX1_mend 9 = .ok (.getfield 105, 3) := dk_180 0 105 (dk_at dksX1_mend_0 9 rfl rfl)
theorem dX1_mend_12 : decode cX1_mend 12 = .ok (.iload_n 1, 1) := dk_27 (dk_at dksX1_mend_0 12 rfl rfl)
theorem dX1_mend_13 : decode cX1_mend 13 = .ok (.iaload, 1) := dk_46 (dk_at dksX1_mend_0 13 rfl rfl)
theorem dX1_mend_14 : decode cX1_mend 14 = .ok (.ifCond .ne 9, 3) := dk_154 0 9 (dk_at dksX1_mend_0 14 rfl rfl)
theorem dX1_mend_17 : decode cX1_mend 17 = .ok (.aload_n 0, 1) := dk_42 (dk_at dksX1_mend_0 17 rfl rfl)
theorem dX1_mend_18 : decode cX1_mend 18 = .ok (.iconst 1, 1) := dk_4 (dk_at dksX1_mend_0 18 rfl rfl)
theorem dX1_mend_19 : decode cX1_mend 19 = .ok (.invokevirtual 200, 3) := dk_182 0 200 (dk_at dksX1_mend_0 19 rfl rfl)
theorem dX1_mend_22 : decode cX1_mend 22 = .ok (.ireturn, 1) := dk_172 (dk_at dksX1_mend_0 22 rfl rfl)
theorem dX1_mend_23 : decode cX1_mend 23 = .ok (.aload_n 0, 1) := dk_42 (dk_at dksX1_mend_0 23 rfl rfl)
theorem dX1_mend_24 : decode cX1_mend 24 = .ok (.invokevirtual 203, 3) := dk_182 0 203 (dk_at dksX1_mend_1 0 rfl rfl)
theorem dX1_mend_27 : decode cX1_mend 27 = .ok (.aload_n 0, 1) := dk_42 (dk_at dksX1_mend_1 3 rfl rfl)
theorem dX1_mend_28 : decode cX1_mend 28 = .ok (.getfield 40, 3) := dk_180 0 40 (dk_at dksX1_mend_1 4 rfl rfl)
theorem dX1_mend_31 : decode cX1_mend 31 = .ok (.iload_n 1, 1) := dk_27 (dk_at dksX1_mend_1 7 rfl rfl)
theorem dX1_mend_32 : decode cX1_mend 32 = .ok (.invokevirtual 210, 3) := dk_182 0 210 (dk_at dksX1_mend_1 8 rfl rfl)
theorem dX1_mend_35 : decode cX1_mend 35 = .ok (.aload_n 0, 1) := dk_42 (dk_at dksX1_mend_1 11 rfl rfl)
theorem dX1_mend_36 : decode cX1_mend 36 = .ok (.getfield 40, 3) := dk_180 0 40 (dk_at dksX1_mend_1 12 rfl rfl)
theorem dX1_mend_39 : decode cX1_mend 39 = .ok (.getfield 158, 3) := dk_180 0 158 (dk_at dksX1_mend_1 15 rfl rfl)
theorem dX1_mend_42 : decode cX1_mend 42 = .ok (.aload_n 0, 1) := dk_42 (dk_at dksX1_mend_1 18 rfl rfl)
theorem dX1_mend_43 : decode cX1_mend 43 = .ok (.getfield 40, 3) := dk_180 0 40 (dk_at dksX1_mend_1 19 rfl rfl)
theorem dX1_mend_46 : decode cX1_mend 46 = .ok (.getfield 108, 3) := dk_180 0 108 (dk_at dksX1_mend_2 0 rfl rfl)
theorem dX1_mend_49 : decode cX1_mend 49 = .ok (.iload_n 1, 1) := dk_27 (dk_at dksX1_mend_2 3 rfl rfl)
theorem dX1_mend_50 : decode cX1_mend 50 = .ok (.iaload, 1) := dk_46 (dk_at dksX1_mend_2 4 rfl rfl)
theorem dX1_mend_51 : decode cX1_mend 51 = .ok (.iaload, 1) := dk_46 (dk_at dksX1_mend_2 5 rfl rfl)
theorem dX1_mend_52 : decode cX1_mend 52 = .ok (.ireturn, 1) := dk_172 (dk_at dksX1_mend_2 6 rfl rfl)
abbrev cX1_go : ByteArray := prog_1_method_21_code
def yX1_go : MethodName := ⟨RX1, "go", "(II)I"⟩
def dkwX1_go_2 : List UInt8 := [172]
abbrev dktX1_go_2 : List UInt8 := dkwX1_go_2 ++ []
def dkwX1_go_1 : List UInt8 := [160, 0, 9, 42, 4, 182, 0, 200, 172, 42, 182, 0, 203, 42, 180, 0, 40, 180, 0, 108, 27, 28, 79, 29]
abbrev dktX1_go_1 : List UInt8 := dkwX1_go_1 ++ dktX1_go_2
def dkwX1_go_0 : List UInt8 := [42, 27, 182, 0, 170, 42, 28, 182, 0, 151, 42, 180, 0, 40, 180, 0, 108, 27, 46, 62, 29, 28]
abbrev dktX1_go_0 : List UInt8 := dkwX1_go_0 ++ dktX1_go_1
theorem dksX1_go_0 : cX1_go.data.toList.drop 0 = dktX1_go_0 := by decide +kernel
theorem dksX1_go_1 : cX1_go.data.toList.drop 22 = dktX1_go_1 := dk_seg dksX1_go_0 22 rfl rfl
theorem dksX1_go_2 : cX1_go.data.toList.drop 46 = dktX1_go_2 := dk_seg dksX1_go_1 24 rfl rfl
theorem dX1_go_0 : decode cX1_go 0 = .ok (.aload_n 0, 1) := dk_42 (dk_at dksX1_go_0 0 rfl rfl)
theorem dX1_go_1 : decode cX1_go 1 = .ok (.iload_n 1, 1) := dk_27 (dk_at dksX1_go_0 1 rfl rfl)
theorem dX1_go_2 : decode cX1_go 2 = .ok (.invokevirtual 170, 3) := dk_182 0 170 (dk_at dksX1_go_0 2 rfl rfl)
theorem dX1_go_5 : decode cX1_go 5 = .ok (.aload_n 0, 1) := dk_42 (dk_at dksX1_go_0 5 rfl rfl)
theorem dX1_go_6 : decode cX1_go 6 = .ok (.iload_n 2, 1) := dk_28 (dk_at dksX1_go_0 6 rfl rfl)
theorem dX1_go_7 : decode cX1_go 7 = .ok (.invokevirtual 151, 3) := dk_182 0 151 (dk_at dksX1_go_0 7 rfl rfl)
theorem dX1_go_10 : decode cX1_go 10 = .ok (.aload_n 0, 1) := dk_42 (dk_at dksX1_go_0 10 rfl rfl)
theorem dX1_go_11 : decode cX1_go 11 = .ok (.getfield 40, 3) := dk_180 0 40 (dk_at dksX1_go_0 11 rfl rfl)
theorem dX1_go_14 : decode cX1_go 14 = .ok (.getfield 108, 3) := dk_180 0 108 (dk_at dksX1_go_0 14 rfl rfl)
theorem dX1_go_17 : decode cX1_go 17 = .ok (.iload_n 1, 1) := dk_27 (dk_at dksX1_go_0 17 rfl rfl)
theorem dX1_go_18 : decode cX1_go 18 = .ok (.iaload, 1) := dk_46 (dk_at dksX1_go_0 18 rfl rfl)
theorem dX1_go_19 : decode cX1_go 19 = .ok (.istore_n 3, 1) := dk_62 (dk_at dksX1_go_0 19 rfl rfl)
theorem dX1_go_20 : decode cX1_go 20 = .ok (.iload_n 3, 1) := dk_29 (dk_at dksX1_go_0 20 rfl rfl)
theorem dX1_go_21 : decode cX1_go 21 = .ok (.iload_n 2, 1) := dk_28 (dk_at dksX1_go_0 21 rfl rfl)
theorem dX1_go_22 : decode cX1_go 22 = .ok (.if_icmp .ne 9, 3) := dk_160 0 9 (dk_at dksX1_go_1 0 rfl rfl)
theorem dX1_go_25 : decode cX1_go 25 = .ok (.aload_n 0, 1) := dk_42 (dk_at dksX1_go_1 3 rfl rfl)
theorem dX1_go_26 : decode cX1_go 26 = .ok (.iconst 1, 1) := dk_4 (dk_at dksX1_go_1 4 rfl rfl)
theorem dX1_go_27 : decode cX1_go 27 = .ok (.invokevirtual 200, 3) := dk_182 0 200 (dk_at dksX1_go_1 5 rfl rfl)
theorem dX1_go_30 : decode cX1_go 30 = .ok (.ireturn, 1) := dk_172 (dk_at dksX1_go_1 8 rfl rfl)
theorem dX1_go_31 : decode cX1_go 31 = .ok (.aload_n 0, 1) := dk_42 (dk_at dksX1_go_1 9 rfl rfl)
theorem dX1_go_32 : decode cX1_go 32 = .ok (.invokevirtual 203, 3) := dk_182 0 203 (dk_at dksX1_go_1 10 rfl rfl)
theorem dX1_go_35 : decode cX1_go 35 = .ok (.aload_n 0, 1) := dk_42 (dk_at dksX1_go_1 13 rfl rfl)
theorem dX1_go_36 : decode cX1_go 36 = .ok (.getfield 40, 3) := dk_180 0 40 (dk_at dksX1_go_1 14 rfl rfl)
theorem dX1_go_39 : decode cX1_go 39 = .ok (.getfield 108, 3) := dk_180 0 108 (dk_at dksX1_go_1 17 rfl rfl)
theorem dX1_go_42 : decode cX1_go 42 = .ok (.iload_n 1, 1) := dk_27 (dk_at dksX1_go_1 20 rfl rfl)
theorem dX1_go_43 : decode cX1_go 43 = .ok (.iload_n 2, 1) := dk_28 (dk_at dksX1_go_1 21 rfl rfl)
theorem dX1_go_44 : decode cX1_go 44 = .ok (.iastore, 1) := dk_79 (dk_at dksX1_go_1 22 rfl rfl)
theorem dX1_go_45 : decode cX1_go 45 = .ok (.iload_n 3, 1) := dk_29 (dk_at dksX1_go_1 23 rfl rfl)
theorem dX1_go_46 : decode cX1_go 46 = .ok (.ireturn, 1) := dk_172 (dk_at dksX1_go_2 0 rfl rfl)
abbrev cX1_tear : ByteArray := prog_1_method_24_code
def yX1_tear : MethodName := ⟨RX1, "tear", "(II)I"⟩
def dkwX1_tear_2 : List UInt8 := [180, 0, 40, 180, 0, 158, 27, 46, 172]
abbrev dktX1_tear_2 : List UInt8 := dkwX1_tear_2 ++ []
def dkwX1_tear_1 : List UInt8 := [153, 0, 9, 42, 4, 182, 0, 200, 172, 42, 182, 0, 203, 42, 180, 0, 40, 27, 28, 182, 0, 217, 42]
abbrev dktX1_tear_1 : List UInt8 := dkwX1_tear_1 ++ dktX1_tear_2
def dkwX1_tear_0 : List UInt8 := [42, 27, 182, 0, 151, 28, 4, 16, 50, 184, 0, 144, 153, 0, 14, 42, 180, 0, 40, 27, 182, 0, 213]
abbrev dktX1_tear_0 : List UInt8 := dkwX1_tear_0 ++ dktX1_tear_1
theorem dksX1_tear_0 : cX1_tear.data.toList.drop 0 = dktX1_tear_0 := by decide +kernel
theorem dksX1_tear_1 : cX1_tear.data.toList.drop 23 = dktX1_tear_1 := dk_seg dksX1_tear_0 23 rfl rfl
theorem dksX1_tear_2 : cX1_tear.data.toList.drop 46 = dktX1_tear_2 := dk_seg dksX1_tear_1 23 rfl rfl
theorem dX1_tear_0 : decode cX1_tear 0 = .ok (.aload_n 0, 1) := dk_42 (dk_at dksX1_tear_0 0 rfl rfl)
theorem dX1_tear_1 : decode cX1_tear 1 = .ok (.iload_n 1, 1) := dk_27 (dk_at dksX1_tear_0 1 rfl rfl)
theorem dX1_tear_2 : decode cX1_tear 2 = .ok (.invokevirtual 151, 3) := dk_182 0 151 (dk_at dksX1_tear_0 2 rfl rfl)
theorem dX1_tear_5 : decode cX1_tear 5 = .ok (.iload_n 2, 1) := dk_28 (dk_at dksX1_tear_0 5 rfl rfl)
theorem dX1_tear_6 : decode cX1_tear 6 = .ok (.iconst 1, 1) := dk_4 (dk_at dksX1_tear_0 6 rfl rfl)
theorem dX1_tear_7 : decode cX1_tear 7 = .ok (.bipush 50, 2) := dk_16 50 (dk_at dksX1_tear_0 7 rfl rfl)
theorem dX1_tear_9 : decode cX1_tear 9 = .ok (.invokestatic 144, 3) := dk_184 0 144 (dk_at dksX1_tear_0 9 rfl rfl)
theorem dX1_tear_12 : decode cX1_tear 12 = .ok (.ifCond .eq 14, 3) := dk_153 0 14 (dk_at dksX1_tear_0 12 rfl rfl)
theorem dX1_tear_15 : decode cX1_tear 15 = .ok (.aload_n 0, 1) := dk_42 (dk_at dksX1_tear_0 15 rfl rfl)
theorem dX1_tear_16 : decode cX1_tear 16 = .ok (.getfield 40, 3) := dk_180 0 40 (dk_at dksX1_tear_0 16 rfl rfl)
theorem dX1_tear_19 : decode cX1_tear 19 = .ok (.iload_n 1, 1) := dk_27 (dk_at dksX1_tear_0 19 rfl rfl)
theorem dX1_tear_20 : decode cX1_tear 20 = .ok (.invokevirtual 213, 3) := dk_182 0 213 (dk_at dksX1_tear_0 20 rfl rfl)
theorem dX1_tear_23 : decode cX1_tear 23 = .ok (.ifCond .eq 9, 3) := dk_153 0 9 (dk_at dksX1_tear_1 0 rfl rfl)
theorem dX1_tear_26 : decode cX1_tear 26 = .ok (.aload_n 0, 1) := dk_42 (dk_at dksX1_tear_1 3 rfl rfl)
theorem dX1_tear_27 : decode cX1_tear 27 = .ok (.iconst 1, 1) := dk_4 (dk_at dksX1_tear_1 4 rfl rfl)
theorem dX1_tear_28 : decode cX1_tear 28 = .ok (.invokevirtual 200, 3) := dk_182 0 200 (dk_at dksX1_tear_1 5 rfl rfl)
theorem dX1_tear_31 : decode cX1_tear 31 = .ok (.ireturn, 1) := dk_172 (dk_at dksX1_tear_1 8 rfl rfl)
theorem dX1_tear_32 : decode cX1_tear 32 = .ok (.aload_n 0, 1) := dk_42 (dk_at dksX1_tear_1 9 rfl rfl)
theorem dX1_tear_33 : decode cX1_tear 33 = .ok (.invokevirtual 203, 3) := dk_182 0 203 (dk_at dksX1_tear_1 10 rfl rfl)
theorem dX1_tear_36 : decode cX1_tear 36 = .ok (.aload_n 0, 1) := dk_42 (dk_at dksX1_tear_1 13 rfl rfl)
theorem dX1_tear_37 : decode cX1_tear 37 = .ok (.getfield 40, 3) := dk_180 0 40 (dk_at dksX1_tear_1 14 rfl rfl)
theorem dX1_tear_40 : decode cX1_tear 40 = .ok (.iload_n 1, 1) := dk_27 (dk_at dksX1_tear_1 17 rfl rfl)
theorem dX1_tear_41 : decode cX1_tear 41 = .ok (.iload_n 2, 1) := dk_28 (dk_at dksX1_tear_1 18 rfl rfl)
theorem dX1_tear_42 : decode cX1_tear 42 = .ok (.invokevirtual 217, 3) := dk_182 0 217 (dk_at dksX1_tear_1 19 rfl rfl)
theorem dX1_tear_45 : decode cX1_tear 45 = .ok (.aload_n 0, 1) := dk_42 (dk_at dksX1_tear_1 22 rfl rfl)
theorem dX1_tear_46 : decode cX1_tear 46 = .ok (.getfield 40, 3) := dk_180 0 40 (dk_at dksX1_tear_2 0 rfl rfl)
theorem dX1_tear_49 : decode cX1_tear 49 = .ok (.getfield 158, 3) := dk_180 0 158 (dk_at dksX1_tear_2 3 rfl rfl)
theorem dX1_tear_52 : decode cX1_tear 52 = .ok (.iload_n 1, 1) := dk_27 (dk_at dksX1_tear_2 6 rfl rfl)
theorem dX1_tear_53 : decode cX1_tear 53 = .ok (.iaload, 1) := dk_46 (dk_at dksX1_tear_2 7 rfl rfl)
theorem dX1_tear_54 : decode cX1_tear 54 = .ok (.ireturn, 1) := dk_172 (dk_at dksX1_tear_2 8 rfl rfl)
abbrev cX1_stitch : ByteArray := prog_1_method_22_code
def yX1_stitch : MethodName := ⟨RX1, "stitch", "(II)I"⟩
def dkwX1_stitch_2 : List UInt8 := [79, 29, 172]
abbrev dktX1_stitch_2 : List UInt8 := dkwX1_stitch_2 ++ []
def dkwX1_stitch_1 : List UInt8 := [28, 29, 160, 0, 9, 42, 4, 182, 0, 200, 172, 42, 182, 0, 203, 42, 180, 0, 40, 180, 0, 161, 27, 28]
abbrev dktX1_stitch_1 : List UInt8 := dkwX1_stitch_1 ++ dktX1_stitch_2
def dkwX1_stitch_0 : List UInt8 := [42, 27, 182, 0, 151, 42, 180, 0, 40, 180, 0, 161, 27, 46, 62, 28, 3, 5, 184, 0, 144, 153, 0, 8]
abbrev dktX1_stitch_0 : List UInt8 := dkwX1_stitch_0 ++ dktX1_stitch_1
theorem dksX1_stitch_0 : cX1_stitch.data.toList.drop 0 = dktX1_stitch_0 := by decide +kernel
theorem dksX1_stitch_1 : cX1_stitch.data.toList.drop 24 = dktX1_stitch_1 := dk_seg dksX1_stitch_0 24 rfl rfl
theorem dksX1_stitch_2 : cX1_stitch.data.toList.drop 48 = dktX1_stitch_2 := dk_seg dksX1_stitch_1 24 rfl rfl
theorem dX1_stitch_0 : decode cX1_stitch 0 = .ok (.aload_n 0, 1) := dk_42 (dk_at dksX1_stitch_0 0 rfl rfl)
theorem dX1_stitch_1 : decode cX1_stitch 1 = .ok (.iload_n 1, 1) := dk_27 (dk_at dksX1_stitch_0 1 rfl rfl)
theorem dX1_stitch_2 : decode cX1_stitch 2 = .ok (.invokevirtual 151, 3) := dk_182 0 151 (dk_at dksX1_stitch_0 2 rfl rfl)
theorem dX1_stitch_5 : decode cX1_stitch 5 = .ok (.aload_n 0, 1) := dk_42 (dk_at dksX1_stitch_0 5 rfl rfl)
theorem dX1_stitch_6 : decode cX1_stitch 6 = .ok (.getfield 40, 3) := dk_180 0 40 (dk_at dksX1_stitch_0 6 rfl rfl)
theorem dX1_stitch_9 : decode cX1_stitch 9 = .ok (.getfield 161, 3) := dk_180 0 161 (dk_at dksX1_stitch_0 9 rfl rfl)
theorem dX1_stitch_12 : decode cX1_stitch 12 = .ok (.iload_n 1, 1) := dk_27 (dk_at dksX1_stitch_0 12 rfl rfl)
theorem dX1_stitch_13 : decode cX1_stitch 13 = .ok (.iaload, 1) := dk_46 (dk_at dksX1_stitch_0 13 rfl rfl)
theorem dX1_stitch_14 : decode cX1_stitch 14 = .ok (.istore_n 3, 1) := dk_62 (dk_at dksX1_stitch_0 14 rfl rfl)
theorem dX1_stitch_15 : decode cX1_stitch 15 = .ok (.iload_n 2, 1) := dk_28 (dk_at dksX1_stitch_0 15 rfl rfl)
theorem dX1_stitch_16 : decode cX1_stitch 16 = .ok (.iconst 0, 1) := dk_3 (dk_at dksX1_stitch_0 16 rfl rfl)
theorem dX1_stitch_17 : decode cX1_stitch 17 = .ok (.iconst 2, 1) := dk_5 (dk_at dksX1_stitch_0 17 rfl rfl)
theorem dX1_stitch_18 : decode cX1_stitch 18 = .ok (.invokestatic 144, 3) := dk_184 0 144 (dk_at dksX1_stitch_0 18 rfl rfl)
theorem dX1_stitch_21 : decode cX1_stitch 21 = .ok (.ifCond .eq 8, 3) := dk_153 0 8 (dk_at dksX1_stitch_0 21 rfl rfl)
theorem dX1_stitch_24 : decode cX1_stitch 24 = .ok (.iload_n 2, 1) := dk_28 (dk_at dksX1_stitch_1 0 rfl rfl)
theorem dX1_stitch_25 : decode cX1_stitch 25 = .ok (.iload_n 3, 1) := dk_29 (dk_at dksX1_stitch_1 1 rfl rfl)
theorem dX1_stitch_26 : decode cX1_stitch 26 = .ok (.if_icmp .ne 9, 3) := dk_160 0 9 (dk_at dksX1_stitch_1 2 rfl rfl)
theorem dX1_stitch_29 : decode cX1_stitch 29 = .ok (.aload_n 0, 1) := dk_42 (dk_at dksX1_stitch_1 5 rfl rfl)
theorem dX1_stitch_30 : decode cX1_stitch 30 = .ok (.iconst 1, 1) := dk_4 (dk_at dksX1_stitch_1 6 rfl rfl)
theorem dX1_stitch_31 : decode cX1_stitch 31 = .ok (.invokevirtual 200, 3) := dk_182 0 200 (dk_at dksX1_stitch_1 7 rfl rfl)
theorem dX1_stitch_34 : decode cX1_stitch 34 = .ok (.ireturn, 1) := dk_172 (dk_at dksX1_stitch_1 10 rfl rfl)
theorem dX1_stitch_35 : decode cX1_stitch 35 = .ok (.aload_n 0, 1) := dk_42 (dk_at dksX1_stitch_1 11 rfl rfl)
theorem dX1_stitch_36 : decode cX1_stitch 36 = .ok (.invokevirtual 203, 3) := dk_182 0 203 (dk_at dksX1_stitch_1 12 rfl rfl)
theorem dX1_stitch_39 : decode cX1_stitch 39 = .ok (.aload_n 0, 1) := dk_42 (dk_at dksX1_stitch_1 15 rfl rfl)
theorem dX1_stitch_40 : decode cX1_stitch 40 = .ok (.getfield 40, 3) := dk_180 0 40 (dk_at dksX1_stitch_1 16 rfl rfl)
theorem dX1_stitch_43 : decode cX1_stitch 43 = .ok (.getfield 161, 3) := dk_180 0 161 (dk_at dksX1_stitch_1 19 rfl rfl)
theorem dX1_stitch_46 : decode cX1_stitch 46 = .ok (.iload_n 1, 1) := dk_27 (dk_at dksX1_stitch_1 22 rfl rfl)
theorem dX1_stitch_47 : decode cX1_stitch 47 = .ok (.iload_n 2, 1) := dk_28 (dk_at dksX1_stitch_1 23 rfl rfl)
theorem dX1_stitch_48 : decode cX1_stitch 48 = .ok (.iastore, 1) := dk_79 (dk_at dksX1_stitch_2 0 rfl rfl)
theorem dX1_stitch_49 : decode cX1_stitch 49 = .ok (.iload_n 3, 1) := dk_29 (dk_at dksX1_stitch_2 1 rfl rfl)
theorem dX1_stitch_50 : decode cX1_stitch 50 = .ok (.ireturn, 1) := dk_172 (dk_at dksX1_stitch_2 2 rfl rfl)
abbrev cX1_thread : ByteArray := prog_1_method_23_code
def yX1_thread : MethodName := ⟨RX1, "thread", "(II)I"⟩
def dkwX1_thread_2 : List UInt8 := [184, 0, 10, 79, 42, 180, 0, 40, 180, 0, 105, 27, 46, 172]
abbrev dktX1_thread_2 : List UInt8 := dkwX1_thread_2 ++ []
def dkwX1_thread_1 : List UInt8 := [182, 0, 203, 42, 180, 0, 40, 180, 0, 105, 27, 16, 99, 42, 180, 0, 40, 180, 0, 105, 27, 46, 28, 96]
abbrev dktX1_thread_1 : List UInt8 := dkwX1_thread_1 ++ dktX1_thread_2
def dkwX1_thread_0 : List UInt8 := [42, 27, 182, 0, 170, 28, 4, 16, 50, 184, 0, 144, 154, 0, 9, 42, 4, 182, 0, 200, 172, 42]
abbrev dktX1_thread_0 : List UInt8 := dkwX1_thread_0 ++ dktX1_thread_1
theorem dksX1_thread_0 : cX1_thread.data.toList.drop 0 = dktX1_thread_0 := by decide +kernel
theorem dksX1_thread_1 : cX1_thread.data.toList.drop 22 = dktX1_thread_1 := dk_seg dksX1_thread_0 22 rfl rfl
theorem dksX1_thread_2 : cX1_thread.data.toList.drop 46 = dktX1_thread_2 := dk_seg dksX1_thread_1 24 rfl rfl
theorem dX1_thread_0 : decode cX1_thread 0 = .ok (.aload_n 0, 1) := dk_42 (dk_at dksX1_thread_0 0 rfl rfl)
theorem dX1_thread_1 : decode cX1_thread 1 = .ok (.iload_n 1, 1) := dk_27 (dk_at dksX1_thread_0 1 rfl rfl)
theorem dX1_thread_2 : decode cX1_thread 2 = .ok (.invokevirtual 170, 3) := dk_182 0 170 (dk_at dksX1_thread_0 2 rfl rfl)
theorem dX1_thread_5 : decode cX1_thread 5 = .ok (.iload_n 2, 1) := dk_28 (dk_at dksX1_thread_0 5 rfl rfl)
theorem dX1_thread_6 : decode cX1_thread 6 = .ok (.iconst 1, 1) := dk_4 (dk_at dksX1_thread_0 6 rfl rfl)
theorem dX1_thread_7 : decode cX1_thread 7 = .ok (.bipush 50, 2) := dk_16 50 (dk_at dksX1_thread_0 7 rfl rfl)
theorem dX1_thread_9 : decode cX1_thread 9 = .ok (.invokestatic 144, 3) := dk_184 0 144 (dk_at dksX1_thread_0 9 rfl rfl)
theorem dX1_thread_12 : decode cX1_thread 12 = .ok (.ifCond .ne 9, 3) := dk_154 0 9 (dk_at dksX1_thread_0 12 rfl rfl)
theorem dX1_thread_15 : decode cX1_thread 15 = .ok (.aload_n 0, 1) := dk_42 (dk_at dksX1_thread_0 15 rfl rfl)
theorem dX1_thread_16 : decode cX1_thread 16 = .ok (.iconst 1, 1) := dk_4 (dk_at dksX1_thread_0 16 rfl rfl)
theorem dX1_thread_17 : decode cX1_thread 17 = .ok (.invokevirtual 200, 3) := dk_182 0 200 (dk_at dksX1_thread_0 17 rfl rfl)
theorem dX1_thread_20 : decode cX1_thread 20 = .ok (.ireturn, 1) := dk_172 (dk_at dksX1_thread_0 20 rfl rfl)
theorem dX1_thread_21 : decode cX1_thread 21 = .ok (.aload_n 0, 1) := dk_42 (dk_at dksX1_thread_0 21 rfl rfl)
theorem dX1_thread_22 : decode cX1_thread 22 = .ok (.invokevirtual 203, 3) := dk_182 0 203 (dk_at dksX1_thread_1 0 rfl rfl)
theorem dX1_thread_25 : decode cX1_thread 25 = .ok (.aload_n 0, 1) := dk_42 (dk_at dksX1_thread_1 3 rfl rfl)
theorem dX1_thread_26 : decode cX1_thread 26 = .ok (.getfield 40, 3) := dk_180 0 40 (dk_at dksX1_thread_1 4 rfl rfl)
theorem dX1_thread_29 : decode cX1_thread 29 = .ok (.getfield 105, 3) := dk_180 0 105 (dk_at dksX1_thread_1 7 rfl rfl)
theorem dX1_thread_32 : decode cX1_thread 32 = .ok (.iload_n 1, 1) := dk_27 (dk_at dksX1_thread_1 10 rfl rfl)
theorem dX1_thread_33 : decode cX1_thread 33 = .ok (.bipush 99, 2) := dk_16 99 (dk_at dksX1_thread_1 11 rfl rfl)
theorem dX1_thread_35 : decode cX1_thread 35 = .ok (.aload_n 0, 1) := dk_42 (dk_at dksX1_thread_1 13 rfl rfl)
theorem dX1_thread_36 : decode cX1_thread 36 = .ok (.getfield 40, 3) := dk_180 0 40 (dk_at dksX1_thread_1 14 rfl rfl)
theorem dX1_thread_39 : decode cX1_thread 39 = .ok (.getfield 105, 3) := dk_180 0 105 (dk_at dksX1_thread_1 17 rfl rfl)
theorem dX1_thread_42 : decode cX1_thread 42 = .ok (.iload_n 1, 1) := dk_27 (dk_at dksX1_thread_1 20 rfl rfl)
theorem dX1_thread_43 : decode cX1_thread 43 = .ok (.iaload, 1) := dk_46 (dk_at dksX1_thread_1 21 rfl rfl)
theorem dX1_thread_44 : decode cX1_thread 44 = .ok (.iload_n 2, 1) := dk_28 (dk_at dksX1_thread_1 22 rfl rfl)
theorem dX1_thread_45 : decode cX1_thread 45 = .ok (.iadd, 1) := dk_96 (dk_at dksX1_thread_1 23 rfl rfl)
theorem dX1_thread_46 : decode cX1_thread 46 = .ok (.invokestatic 10, 3) := dk_184 0 10 (dk_at dksX1_thread_2 0 rfl rfl)
theorem dX1_thread_49 : decode cX1_thread 49 = .ok (.iastore, 1) := dk_79 (dk_at dksX1_thread_2 3 rfl rfl)
theorem dX1_thread_50 : decode cX1_thread 50 = .ok (.aload_n 0, 1) := dk_42 (dk_at dksX1_thread_2 4 rfl rfl)
theorem dX1_thread_51 : decode cX1_thread 51 = .ok (.getfield 40, 3) := dk_180 0 40 (dk_at dksX1_thread_2 5 rfl rfl)
theorem dX1_thread_54 : decode cX1_thread 54 = .ok (.getfield 105, 3) := dk_180 0 105 (dk_at dksX1_thread_2 8 rfl rfl)
theorem dX1_thread_57 : decode cX1_thread 57 = .ok (.iload_n 1, 1) := dk_27 (dk_at dksX1_thread_2 11 rfl rfl)
theorem dX1_thread_58 : decode cX1_thread 58 = .ok (.iaload, 1) := dk_46 (dk_at dksX1_thread_2 12 rfl rfl)
theorem dX1_thread_59 : decode cX1_thread 59 = .ok (.ireturn, 1) := dk_172 (dk_at dksX1_thread_2 13 rfl rfl)
abbrev cX1_bitsOf : ByteArray := prog_1_method_40_code
def yX1_bitsOf : MethodName := ⟨RX1, "bitsOf", "(I)[I"⟩
def dkwX1_bitsOf_2 : List UInt8 := [176]
abbrev dktX1_bitsOf_2 : List UInt8 := dkwX1_bitsOf_2 ++ []
def dkwX1_bitsOf_1 : List UInt8 := [27, 21, 4, 184, 1, 2, 153, 0, 11, 44, 29, 132, 3, 1, 21, 4, 79, 132, 4, 1, 167, 255, 224, 44]
abbrev dktX1_bitsOf_1 : List UInt8 := dkwX1_bitsOf_1 ++ dktX1_bitsOf_2
def dkwX1_bitsOf_0 : List UInt8 := [27, 184, 0, 255, 188, 10, 77, 3, 62, 3, 54, 4, 21, 4, 42, 180, 0, 31, 180, 0, 115, 162, 0, 26]
abbrev dktX1_bitsOf_0 : List UInt8 := dkwX1_bitsOf_0 ++ dktX1_bitsOf_1
theorem dksX1_bitsOf_0 : cX1_bitsOf.data.toList.drop 0 = dktX1_bitsOf_0 := by decide +kernel
theorem dksX1_bitsOf_1 : cX1_bitsOf.data.toList.drop 24 = dktX1_bitsOf_1 := dk_seg dksX1_bitsOf_0 24 rfl rfl
theorem dksX1_bitsOf_2 : cX1_bitsOf.data.toList.drop 48 = dktX1_bitsOf_2 := dk_seg dksX1_bitsOf_1 24 rfl rfl
theorem dX1_bitsOf_0 : decode cX1_bitsOf 0 = .ok (.iload_n 1, 1) := dk_27 (dk_at dksX1_bitsOf_0 0 rfl rfl)
theorem dX1_bitsOf_1 : decode cX1_bitsOf 1 = .ok (.invokestatic 255, 3) := dk_184 0 255 (dk_at dksX1_bitsOf_0 1 rfl rfl)
theorem dX1_bitsOf_4 : decode cX1_bitsOf 4 = .ok (.newarray .int, 2) := dk_188_10 (dk_at dksX1_bitsOf_0 4 rfl rfl)
theorem dX1_bitsOf_6 : decode cX1_bitsOf 6 = .ok (.astore_n 2, 1) := dk_77 (dk_at dksX1_bitsOf_0 6 rfl rfl)
theorem dX1_bitsOf_7 : decode cX1_bitsOf 7 = .ok (.iconst 0, 1) := dk_3 (dk_at dksX1_bitsOf_0 7 rfl rfl)
theorem dX1_bitsOf_8 : decode cX1_bitsOf 8 = .ok (.istore_n 3, 1) := dk_62 (dk_at dksX1_bitsOf_0 8 rfl rfl)
theorem dX1_bitsOf_9 : decode cX1_bitsOf 9 = .ok (.iconst 0, 1) := dk_3 (dk_at dksX1_bitsOf_0 9 rfl rfl)
theorem dX1_bitsOf_10 : decode cX1_bitsOf 10 = .ok (.istore 4, 2) := dk_54 4 (dk_at dksX1_bitsOf_0 10 rfl rfl)
theorem dX1_bitsOf_12 : decode cX1_bitsOf 12 = .ok (.iload 4, 2) := dk_21 4 (dk_at dksX1_bitsOf_0 12 rfl rfl)
theorem dX1_bitsOf_14 : decode cX1_bitsOf 14 = .ok (.aload_n 0, 1) := dk_42 (dk_at dksX1_bitsOf_0 14 rfl rfl)
theorem dX1_bitsOf_15 : decode cX1_bitsOf 15 = .ok (.getfield 31, 3) := dk_180 0 31 (dk_at dksX1_bitsOf_0 15 rfl rfl)
theorem dX1_bitsOf_18 : decode cX1_bitsOf 18 = .ok (.getfield 115, 3) := dk_180 0 115 (dk_at dksX1_bitsOf_0 18 rfl rfl)
theorem dX1_bitsOf_21 : decode cX1_bitsOf 21 = .ok (.if_icmp .ge 26, 3) := dk_162 0 26 (dk_at dksX1_bitsOf_0 21 rfl rfl)
theorem dX1_bitsOf_24 : decode cX1_bitsOf 24 = .ok (.iload_n 1, 1) := dk_27 (dk_at dksX1_bitsOf_1 0 rfl rfl)
theorem dX1_bitsOf_25 : decode cX1_bitsOf 25 = .ok (.iload 4, 2) := dk_21 4 (dk_at dksX1_bitsOf_1 1 rfl rfl)
theorem dX1_bitsOf_27 : decode cX1_bitsOf 27 = .ok (.invokestatic 258, 3) := dk_184 1 2 (dk_at dksX1_bitsOf_1 3 rfl rfl)
theorem dX1_bitsOf_30 : decode cX1_bitsOf 30 = .ok (.ifCond .eq 11, 3) := dk_153 0 11 (dk_at dksX1_bitsOf_1 6 rfl rfl)
theorem dX1_bitsOf_33 : decode cX1_bitsOf 33 = .ok (.aload_n 2, 1) := dk_44 (dk_at dksX1_bitsOf_1 9 rfl rfl)
theorem dX1_bitsOf_34 : decode cX1_bitsOf 34 = .ok (.iload_n 3, 1) := dk_29 (dk_at dksX1_bitsOf_1 10 rfl rfl)
theorem dX1_bitsOf_35 : decode cX1_bitsOf 35 = .ok (.iinc 3 1, 3) := dk_132 3 1 (dk_at dksX1_bitsOf_1 11 rfl rfl)
theorem dX1_bitsOf_38 : decode cX1_bitsOf 38 = .ok (.iload 4, 2) := dk_21 4 (dk_at dksX1_bitsOf_1 14 rfl rfl)
theorem dX1_bitsOf_40 : decode cX1_bitsOf 40 = .ok (.iastore, 1) := dk_79 (dk_at dksX1_bitsOf_1 16 rfl rfl)
theorem dX1_bitsOf_41 : decode cX1_bitsOf 41 = .ok (.iinc 4 1, 3) := dk_132 4 1 (dk_at dksX1_bitsOf_1 17 rfl rfl)
theorem dX1_bitsOf_44 : decode cX1_bitsOf 44 = .ok (.goto (-32), 3) := dk_167 255 224 (dk_at dksX1_bitsOf_1 20 rfl rfl)
theorem dX1_bitsOf_47 : decode cX1_bitsOf 47 = .ok (.aload_n 2, 1) := dk_44 (dk_at dksX1_bitsOf_1 23 rfl rfl)
theorem dX1_bitsOf_48 : decode cX1_bitsOf 48 = .ok (.areturn, 1) := dk_176 (dk_at dksX1_bitsOf_2 0 rfl rfl)
abbrev cX1_see : ByteArray := prog_1_method_52_code
def yX1_see : MethodName := ⟨RX1, "see", "(III)I"⟩
def dkwX1_see_3 : List UInt8 := [42, 180, 0, 68, 185, 0, 121, 1, 0, 172]
abbrev dktX1_see_3 : List UInt8 := dkwX1_see_3 ++ []
def dkwX1_see_2 : List UInt8 := [180, 0, 68, 6, 188, 10, 89, 3, 27, 79, 89, 4, 28, 79, 89, 5, 29, 79, 185, 0, 193, 2, 0, 87]
abbrev dktX1_see_2 : List UInt8 := dkwX1_see_2 ++ dktX1_see_3
def dkwX1_see_1 : List UInt8 := [184, 0, 144, 153, 0, 13, 29, 3, 16, 99, 184, 0, 144, 154, 0, 9, 42, 5, 182, 0, 200, 172, 42]
abbrev dktX1_see_1 : List UInt8 := dkwX1_see_1 ++ dktX1_see_2
def dkwX1_see_0 : List UInt8 := [42, 27, 182, 0, 151, 42, 180, 0, 68, 185, 0, 121, 1, 0, 16, 8, 159, 0, 23, 28, 3, 16, 20]
abbrev dktX1_see_0 : List UInt8 := dkwX1_see_0 ++ dktX1_see_1
theorem dksX1_see_0 : cX1_see.data.toList.drop 0 = dktX1_see_0 := by decide +kernel
theorem dksX1_see_1 : cX1_see.data.toList.drop 23 = dktX1_see_1 := dk_seg dksX1_see_0 23 rfl rfl
theorem dksX1_see_2 : cX1_see.data.toList.drop 46 = dktX1_see_2 := dk_seg dksX1_see_1 23 rfl rfl
theorem dksX1_see_3 : cX1_see.data.toList.drop 70 = dktX1_see_3 := dk_seg dksX1_see_2 24 rfl rfl
theorem dX1_see_0 : decode cX1_see 0 = .ok (.aload_n 0, 1) := dk_42 (dk_at dksX1_see_0 0 rfl rfl)
theorem dX1_see_1 : decode cX1_see 1 = .ok (.iload_n 1, 1) := dk_27 (dk_at dksX1_see_0 1 rfl rfl)
theorem dX1_see_2 : decode cX1_see 2 = .ok (.invokevirtual 151, 3) := dk_182 0 151 (dk_at dksX1_see_0 2 rfl rfl)
theorem dX1_see_5 : decode cX1_see 5 = .ok (.aload_n 0, 1) := dk_42 (dk_at dksX1_see_0 5 rfl rfl)
theorem dX1_see_6 : decode cX1_see 6 = .ok (.getfield 68, 3) := dk_180 0 68 (dk_at dksX1_see_0 6 rfl rfl)
theorem dX1_see_9 : decode cX1_see 9 = .ok (.invokeinterface 121 1, 5) := by decide +kernel
theorem dX1_see_14 : decode cX1_see 14 = .ok (.bipush 8, 2) := dk_16 8 (dk_at dksX1_see_0 14 rfl rfl)
theorem dX1_see_16 : decode cX1_see 16 = .ok (.if_icmp .eq 23, 3) := dk_159 0 23 (dk_at dksX1_see_0 16 rfl rfl)
theorem dX1_see_19 : decode cX1_see 19 = .ok (.iload_n 2, 1) := dk_28 (dk_at dksX1_see_0 19 rfl rfl)
theorem dX1_see_20 : decode cX1_see 20 = .ok (.iconst 0, 1) := dk_3 (dk_at dksX1_see_0 20 rfl rfl)
theorem dX1_see_21 : decode cX1_see 21 = .ok (.bipush 20, 2) := dk_16 20 (dk_at dksX1_see_0 21 rfl rfl)
theorem dX1_see_23 : decode cX1_see 23 = .ok (.invokestatic 144, 3) := dk_184 0 144 (dk_at dksX1_see_1 0 rfl rfl)
theorem dX1_see_26 : decode cX1_see 26 = .ok (.ifCond .eq 13, 3) := dk_153 0 13 (dk_at dksX1_see_1 3 rfl rfl)
theorem dX1_see_29 : decode cX1_see 29 = .ok (.iload_n 3, 1) := dk_29 (dk_at dksX1_see_1 6 rfl rfl)
theorem dX1_see_30 : decode cX1_see 30 = .ok (.iconst 0, 1) := dk_3 (dk_at dksX1_see_1 7 rfl rfl)
theorem dX1_see_31 : decode cX1_see 31 = .ok (.bipush 99, 2) := dk_16 99 (dk_at dksX1_see_1 8 rfl rfl)
theorem dX1_see_33 : decode cX1_see 33 = .ok (.invokestatic 144, 3) := dk_184 0 144 (dk_at dksX1_see_1 10 rfl rfl)
theorem dX1_see_36 : decode cX1_see 36 = .ok (.ifCond .ne 9, 3) := dk_154 0 9 (dk_at dksX1_see_1 13 rfl rfl)
theorem dX1_see_39 : decode cX1_see 39 = .ok (.aload_n 0, 1) := dk_42 (dk_at dksX1_see_1 16 rfl rfl)
theorem dX1_see_40 : decode cX1_see 40 = .ok (.iconst 2, 1) := dk_5 (dk_at dksX1_see_1 17 rfl rfl)
theorem dX1_see_41 : decode cX1_see 41 = .ok (.invokevirtual 200, 3) := dk_182 0 200 (dk_at dksX1_see_1 18 rfl rfl)
theorem dX1_see_44 : decode cX1_see 44 = .ok (.ireturn, 1) := dk_172 (dk_at dksX1_see_1 21 rfl rfl)
theorem dX1_see_45 : decode cX1_see 45 = .ok (.aload_n 0, 1) := dk_42 (dk_at dksX1_see_1 22 rfl rfl)
theorem dX1_see_46 : decode cX1_see 46 = .ok (.getfield 68, 3) := dk_180 0 68 (dk_at dksX1_see_2 0 rfl rfl)
theorem dX1_see_49 : decode cX1_see 49 = .ok (.iconst 3, 1) := dk_6 (dk_at dksX1_see_2 3 rfl rfl)
theorem dX1_see_50 : decode cX1_see 50 = .ok (.newarray .int, 2) := dk_188_10 (dk_at dksX1_see_2 4 rfl rfl)
theorem dX1_see_52 : decode cX1_see 52 = .ok (.dup, 1) := dk_89 (dk_at dksX1_see_2 6 rfl rfl)
theorem dX1_see_53 : decode cX1_see 53 = .ok (.iconst 0, 1) := dk_3 (dk_at dksX1_see_2 7 rfl rfl)
theorem dX1_see_54 : decode cX1_see 54 = .ok (.iload_n 1, 1) := dk_27 (dk_at dksX1_see_2 8 rfl rfl)
theorem dX1_see_55 : decode cX1_see 55 = .ok (.iastore, 1) := dk_79 (dk_at dksX1_see_2 9 rfl rfl)
theorem dX1_see_56 : decode cX1_see 56 = .ok (.dup, 1) := dk_89 (dk_at dksX1_see_2 10 rfl rfl)
theorem dX1_see_57 : decode cX1_see 57 = .ok (.iconst 1, 1) := dk_4 (dk_at dksX1_see_2 11 rfl rfl)
theorem dX1_see_58 : decode cX1_see 58 = .ok (.iload_n 2, 1) := dk_28 (dk_at dksX1_see_2 12 rfl rfl)
theorem dX1_see_59 : decode cX1_see 59 = .ok (.iastore, 1) := dk_79 (dk_at dksX1_see_2 13 rfl rfl)
theorem dX1_see_60 : decode cX1_see 60 = .ok (.dup, 1) := dk_89 (dk_at dksX1_see_2 14 rfl rfl)
theorem dX1_see_61 : decode cX1_see 61 = .ok (.iconst 2, 1) := dk_5 (dk_at dksX1_see_2 15 rfl rfl)
theorem dX1_see_62 : decode cX1_see 62 = .ok (.iload_n 3, 1) := dk_29 (dk_at dksX1_see_2 16 rfl rfl)
theorem dX1_see_63 : decode cX1_see 63 = .ok (.iastore, 1) := dk_79 (dk_at dksX1_see_2 17 rfl rfl)
theorem dX1_see_64 : decode cX1_see 64 = .ok (.invokeinterface 193 2, 5) := by decide +kernel
theorem dX1_see_69 : decode cX1_see 69 = .ok (.pop, 1) := dk_87 (dk_at dksX1_see_2 23 rfl rfl)
theorem dX1_see_70 : decode cX1_see 70 = .ok (.aload_n 0, 1) := dk_42 (dk_at dksX1_see_3 0 rfl rfl)
theorem dX1_see_71 : decode cX1_see 71 = .ok (.getfield 68, 3) := dk_180 0 68 (dk_at dksX1_see_3 1 rfl rfl)
theorem dX1_see_74 : decode cX1_see 74 = .ok (.invokeinterface 121 1, 5) := by decide +kernel
theorem dX1_see_79 : decode cX1_see 79 = .ok (.ireturn, 1) := dk_172 (dk_at dksX1_see_3 9 rfl rfl)
abbrev cX1_others : ByteArray := prog_1_method_55_code
def yX1_others : MethodName := ⟨RX1, "others", "()Ljava/util/List;"⟩
def dkwX1_others_3 : List UInt8 := [184, 1, 48, 185, 0, 193, 2, 0, 87, 132, 3, 1, 167, 255, 197, 132, 2, 1, 167, 255, 178, 43, 176]
abbrev dktX1_others_3 : List UInt8 := dkwX1_others_3 ++ []
def dkwX1_others_2 : List UInt8 := [182, 0, 224, 28, 29, 182, 0, 217, 42, 182, 1, 45, 153, 0, 19, 43, 16, 100, 28, 104, 29, 96]
abbrev dktX1_others_2 : List UInt8 := dkwX1_others_2 ++ dktX1_others_3
def dkwX1_others_1 : List UInt8 := [16, 50, 163, 0, 59, 42, 180, 0, 40, 28, 182, 0, 213, 154, 0, 48, 42, 180, 0, 44, 42, 180, 0, 40]
abbrev dktX1_others_1 : List UInt8 := dkwX1_others_1 ++ dktX1_others_2
def dkwX1_others_0 : List UInt8 := [187, 0, 61, 89, 183, 0, 63, 76, 3, 61, 28, 42, 180, 0, 31, 180, 0, 115, 162, 0, 73, 4, 62, 29]
abbrev dktX1_others_0 : List UInt8 := dkwX1_others_0 ++ dktX1_others_1
theorem dksX1_others_0 : cX1_others.data.toList.drop 0 = dktX1_others_0 := by decide +kernel
theorem dksX1_others_1 : cX1_others.data.toList.drop 24 = dktX1_others_1 := dk_seg dksX1_others_0 24 rfl rfl
theorem dksX1_others_2 : cX1_others.data.toList.drop 48 = dktX1_others_2 := dk_seg dksX1_others_1 24 rfl rfl
theorem dksX1_others_3 : cX1_others.data.toList.drop 70 = dktX1_others_3 := dk_seg dksX1_others_2 22 rfl rfl
theorem dX1_others_0 : decode cX1_others 0 = .ok (.new 61, 3) := dk_187 0 61 (dk_at dksX1_others_0 0 rfl rfl)
theorem dX1_others_3 : decode cX1_others 3 = .ok (.dup, 1) := dk_89 (dk_at dksX1_others_0 3 rfl rfl)
theorem dX1_others_4 : decode cX1_others 4 = .ok (.invokespecial 63, 3) := dk_183 0 63 (dk_at dksX1_others_0 4 rfl rfl)
theorem dX1_others_7 : decode cX1_others 7 = .ok (.astore_n 1, 1) := dk_76 (dk_at dksX1_others_0 7 rfl rfl)
theorem dX1_others_8 : decode cX1_others 8 = .ok (.iconst 0, 1) := dk_3 (dk_at dksX1_others_0 8 rfl rfl)
theorem dX1_others_9 : decode cX1_others 9 = .ok (.istore_n 2, 1) := dk_61 (dk_at dksX1_others_0 9 rfl rfl)
theorem dX1_others_10 : decode cX1_others 10 = .ok (.iload_n 2, 1) := dk_28 (dk_at dksX1_others_0 10 rfl rfl)
theorem dX1_others_11 : decode cX1_others 11 = .ok (.aload_n 0, 1) := dk_42 (dk_at dksX1_others_0 11 rfl rfl)
theorem dX1_others_12 : decode cX1_others 12 = .ok (.getfield 31, 3) := dk_180 0 31 (dk_at dksX1_others_0 12 rfl rfl)
theorem dX1_others_15 : decode cX1_others 15 = .ok (.getfield 115, 3) := dk_180 0 115 (dk_at dksX1_others_0 15 rfl rfl)
theorem dX1_others_18 : decode cX1_others 18 = .ok (.if_icmp .ge 73, 3) := dk_162 0 73 (dk_at dksX1_others_0 18 rfl rfl)
theorem dX1_others_21 : decode cX1_others 21 = .ok (.iconst 1, 1) := dk_4 (dk_at dksX1_others_0 21 rfl rfl)
theorem dX1_others_22 : decode cX1_others 22 = .ok (.istore_n 3, 1) := dk_62 (dk_at dksX1_others_0 22 rfl rfl)
theorem dX1_others_23 : decode cX1_others 23 = .ok (.iload_n 3, 1) := dk_29 (dk_at dksX1_others_0 23 rfl rfl)
theorem dX1_others_24 : decode cX1_others 24 = .ok (.bipush 50, 2) := dk_16 50 (dk_at dksX1_others_1 0 rfl rfl)
theorem dX1_others_26 : decode cX1_others 26 = .ok (.if_icmp .gt 59, 3) := dk_163 0 59 (dk_at dksX1_others_1 2 rfl rfl)
theorem dX1_others_29 : decode cX1_others 29 = .ok (.aload_n 0, 1) := dk_42 (dk_at dksX1_others_1 5 rfl rfl)
theorem dX1_others_30 : decode cX1_others 30 = .ok (.getfield 40, 3) := dk_180 0 40 (dk_at dksX1_others_1 6 rfl rfl)
theorem dX1_others_33 : decode cX1_others 33 = .ok (.iload_n 2, 1) := dk_28 (dk_at dksX1_others_1 9 rfl rfl)
theorem dX1_others_34 : decode cX1_others 34 = .ok (.invokevirtual 213, 3) := dk_182 0 213 (dk_at dksX1_others_1 10 rfl rfl)
theorem dX1_others_37 : decode cX1_others 37 = .ok (.ifCond .ne 48, 3) := dk_154 0 48 (dk_at dksX1_others_1 13 rfl rfl)
theorem dX1_others_40 : decode cX1_others 40 = .ok (.aload_n 0, 1) := dk_42 (dk_at dksX1_others_1 16 rfl rfl)
theorem dX1_others_41 : decode cX1_others 41 = .ok (.getfield 44, 3) := dk_180 0 44 (dk_at dksX1_others_1 17 rfl rfl)
theorem dX1_others_44 : decode cX1_others 44 = .ok (.aload_n 0, 1) := dk_42 (dk_at dksX1_others_1 20 rfl rfl)
theorem dX1_others_45 : decode cX1_others 45 = .ok (.getfield 40, 3) := dk_180 0 40 (dk_at dksX1_others_1 21 rfl rfl)
theorem dX1_others_48 : decode cX1_others 48 = .ok (.invokevirtual 224, 3) := dk_182 0 224 (dk_at dksX1_others_2 0 rfl rfl)
theorem dX1_others_51 : decode cX1_others 51 = .ok (.iload_n 2, 1) := dk_28 (dk_at dksX1_others_2 3 rfl rfl)
theorem dX1_others_52 : decode cX1_others 52 = .ok (.iload_n 3, 1) := dk_29 (dk_at dksX1_others_2 4 rfl rfl)
theorem dX1_others_53 : decode cX1_others 53 = .ok (.invokevirtual 217, 3) := dk_182 0 217 (dk_at dksX1_others_2 5 rfl rfl)
theorem dX1_others_56 : decode cX1_others 56 = .ok (.aload_n 0, 1) := dk_42 (dk_at dksX1_others_2 8 rfl rfl)
theorem dX1_others_57 : decode cX1_others 57 = .ok (.invokevirtual 301, 3) := dk_182 1 45 (dk_at dksX1_others_2 9 rfl rfl)
theorem dX1_others_60 : decode cX1_others 60 = .ok (.ifCond .eq 19, 3) := dk_153 0 19 (dk_at dksX1_others_2 12 rfl rfl)
theorem dX1_others_63 : decode cX1_others 63 = .ok (.aload_n 1, 1) := dk_43 (dk_at dksX1_others_2 15 rfl rfl)
theorem dX1_others_64 : decode cX1_others 64 = .ok (.bipush 100, 2) := dk_16 100 (dk_at dksX1_others_2 16 rfl rfl)
theorem dX1_others_66 : decode cX1_others 66 = .ok (.iload_n 2, 1) := dk_28 (dk_at dksX1_others_2 18 rfl rfl)
theorem dX1_others_67 : decode cX1_others 67 = .ok (.imul, 1) := dk_104 (dk_at dksX1_others_2 19 rfl rfl)
theorem dX1_others_68 : decode cX1_others 68 = .ok (.iload_n 3, 1) := dk_29 (dk_at dksX1_others_2 20 rfl rfl)
theorem dX1_others_69 : decode cX1_others 69 = .ok (.iadd, 1) := dk_96 (dk_at dksX1_others_2 21 rfl rfl)
theorem dX1_others_70 : decode cX1_others 70 = .ok (.invokestatic 304, 3) := dk_184 1 48 (dk_at dksX1_others_3 0 rfl rfl)
theorem dX1_others_73 : decode cX1_others 73 = .ok (.invokeinterface 193 2, 5) := by decide +kernel
theorem dX1_others_78 : decode cX1_others 78 = .ok (.pop, 1) := dk_87 (dk_at dksX1_others_3 8 rfl rfl)
theorem dX1_others_79 : decode cX1_others 79 = .ok (.iinc 3 1, 3) := dk_132 3 1 (dk_at dksX1_others_3 9 rfl rfl)
theorem dX1_others_82 : decode cX1_others 82 = .ok (.goto (-59), 3) := dk_167 255 197 (dk_at dksX1_others_3 12 rfl rfl)
theorem dX1_others_85 : decode cX1_others 85 = .ok (.iinc 2 1, 3) := dk_132 2 1 (dk_at dksX1_others_3 15 rfl rfl)
theorem dX1_others_88 : decode cX1_others 88 = .ok (.goto (-78), 3) := dk_167 255 178 (dk_at dksX1_others_3 18 rfl rfl)
theorem dX1_others_91 : decode cX1_others 91 = .ok (.aload_n 1, 1) := dk_43 (dk_at dksX1_others_3 21 rfl rfl)
theorem dX1_others_92 : decode cX1_others 92 = .ok (.areturn, 1) := dk_176 (dk_at dksX1_others_3 22 rfl rfl)
abbrev cX1_torn : ByteArray := prog_1_method_56_code
def yX1_torn : MethodName := ⟨RX1, "torn", "(I)I"⟩
def dkwX1_torn_3 : List UInt8 := [185, 0, 180, 2, 0, 192, 0, 184, 182, 0, 186, 172]
abbrev dktX1_torn_3 : List UInt8 := dkwX1_torn_3 ++ []
def dkwX1_torn_2 : List UInt8 := [185, 0, 121, 1, 0, 167, 0, 29, 44, 185, 0, 220, 1, 0, 153, 0, 7, 2, 167, 0, 16, 44, 3]
abbrev dktX1_torn_2 : List UInt8 := dkwX1_torn_2 ++ dktX1_torn_3
def dkwX1_torn_1 : List UInt8 := [182, 1, 45, 153, 0, 7, 4, 167, 0, 4, 3, 172, 42, 182, 1, 52, 77, 27, 154, 0, 12, 44]
abbrev dktX1_torn_1 : List UInt8 := dkwX1_torn_1 ++ dktX1_torn_2
def dkwX1_torn_0 : List UInt8 := [27, 5, 184, 0, 173, 27, 5, 160, 0, 28, 42, 180, 0, 44, 42, 180, 0, 40, 182, 0, 224, 87, 42]
abbrev dktX1_torn_0 : List UInt8 := dkwX1_torn_0 ++ dktX1_torn_1
theorem dksX1_torn_0 : cX1_torn.data.toList.drop 0 = dktX1_torn_0 := by decide +kernel
theorem dksX1_torn_1 : cX1_torn.data.toList.drop 23 = dktX1_torn_1 := dk_seg dksX1_torn_0 23 rfl rfl
theorem dksX1_torn_2 : cX1_torn.data.toList.drop 45 = dktX1_torn_2 := dk_seg dksX1_torn_1 22 rfl rfl
theorem dksX1_torn_3 : cX1_torn.data.toList.drop 68 = dktX1_torn_3 := dk_seg dksX1_torn_2 23 rfl rfl
theorem dX1_torn_0 : decode cX1_torn 0 = .ok (.iload_n 1, 1) := dk_27 (dk_at dksX1_torn_0 0 rfl rfl)
theorem dX1_torn_1 : decode cX1_torn 1 = .ok (.iconst 2, 1) := dk_5 (dk_at dksX1_torn_0 1 rfl rfl)
theorem dX1_torn_2 : decode cX1_torn 2 = .ok (.invokestatic 173, 3) := dk_184 0 173 (dk_at dksX1_torn_0 2 rfl rfl)
theorem dX1_torn_5 : decode cX1_torn 5 = .ok (.iload_n 1, 1) := dk_27 (dk_at dksX1_torn_0 5 rfl rfl)
theorem dX1_torn_6 : decode cX1_torn 6 = .ok (.iconst 2, 1) := dk_5 (dk_at dksX1_torn_0 6 rfl rfl)
theorem dX1_torn_7 : decode cX1_torn 7 = .ok (.if_icmp .ne 28, 3) := dk_160 0 28 (dk_at dksX1_torn_0 7 rfl rfl)
theorem dX1_torn_10 : decode cX1_torn 10 = .ok (.aload_n 0, 1) := dk_42 (dk_at dksX1_torn_0 10 rfl rfl)
theorem dX1_torn_11 : decode cX1_torn 11 = .ok (.getfield 44, 3) := dk_180 0 44 (dk_at dksX1_torn_0 11 rfl rfl)
theorem dX1_torn_14 : decode cX1_torn 14 = .ok (.aload_n 0, 1) := dk_42 (dk_at dksX1_torn_0 14 rfl rfl)
theorem dX1_torn_15 : decode cX1_torn 15 = .ok (.getfield 40, 3) := dk_180 0 40 (dk_at dksX1_torn_0 15 rfl rfl)
theorem dX1_torn_18 : decode cX1_torn 18 = .ok (.invokevirtual 224, 3) := dk_182 0 224 (dk_at dksX1_torn_0 18 rfl rfl)
theorem dX1_torn_21 : decode cX1_torn 21 = .ok (.pop, 1) := dk_87 (dk_at dksX1_torn_0 21 rfl rfl)
theorem dX1_torn_22 : decode cX1_torn 22 = .ok (.aload_n 0, 1) := dk_42 (dk_at dksX1_torn_0 22 rfl rfl)
theorem dX1_torn_23 : decode cX1_torn 23 = .ok (.invokevirtual 301, 3) := dk_182 1 45 (dk_at dksX1_torn_1 0 rfl rfl)
theorem dX1_torn_26 : decode cX1_torn 26 = .ok (.ifCond .eq 7, 3) := dk_153 0 7 (dk_at dksX1_torn_1 3 rfl rfl)
theorem dX1_torn_29 : decode cX1_torn 29 = .ok (.iconst 1, 1) := dk_4 (dk_at dksX1_torn_1 6 rfl rfl)
theorem dX1_torn_30 : decode cX1_torn 30 = .ok (.goto 4, 3) := dk_167 0 4 (dk_at dksX1_torn_1 7 rfl rfl)
theorem dX1_torn_33 : decode cX1_torn 33 = .ok (.iconst 0, 1) := dk_3 (dk_at dksX1_torn_1 10 rfl rfl)
theorem dX1_torn_34 : decode cX1_torn 34 = .ok (.ireturn, 1) := dk_172 (dk_at dksX1_torn_1 11 rfl rfl)
theorem dX1_torn_35 : decode cX1_torn 35 = .ok (.aload_n 0, 1) := dk_42 (dk_at dksX1_torn_1 12 rfl rfl)
theorem dX1_torn_36 : decode cX1_torn 36 = .ok (.invokevirtual 308, 3) := dk_182 1 52 (dk_at dksX1_torn_1 13 rfl rfl)
theorem dX1_torn_39 : decode cX1_torn 39 = .ok (.astore_n 2, 1) := dk_77 (dk_at dksX1_torn_1 16 rfl rfl)
theorem dX1_torn_40 : decode cX1_torn 40 = .ok (.iload_n 1, 1) := dk_27 (dk_at dksX1_torn_1 17 rfl rfl)
theorem dX1_torn_41 : decode cX1_torn 41 = .ok (.ifCond .ne 12, 3) := dk_154 0 12 (dk_at dksX1_torn_1 18 rfl rfl)
theorem dX1_torn_44 : decode cX1_torn 44 = .ok (.aload_n 2, 1) := dk_44 (dk_at dksX1_torn_1 21 rfl rfl)
theorem dX1_torn_45 : decode cX1_torn 45 = .ok (.invokeinterface 121 1, 5) := by decide +kernel
theorem dX1_torn_50 : decode cX1_torn 50 = .ok (.goto 29, 3) := dk_167 0 29 (dk_at dksX1_torn_2 5 rfl rfl)
theorem dX1_torn_53 : decode cX1_torn 53 = .ok (.aload_n 2, 1) := dk_44 (dk_at dksX1_torn_2 8 rfl rfl)
theorem dX1_torn_54 : decode cX1_torn 54 = .ok (.invokeinterface 220 1, 5) := by decide +kernel
theorem dX1_torn_59 : decode cX1_torn 59 = .ok (.ifCond .eq 7, 3) := dk_153 0 7 (dk_at dksX1_torn_2 14 rfl rfl)
theorem dX1_torn_62 : decode cX1_torn 62 = .ok (.iconst (-1), 1) := dk_2 (dk_at dksX1_torn_2 17 rfl rfl)
theorem dX1_torn_63 : decode cX1_torn 63 = .ok (.goto 16, 3) := dk_167 0 16 (dk_at dksX1_torn_2 18 rfl rfl)
theorem dX1_torn_66 : decode cX1_torn 66 = .ok (.aload_n 2, 1) := dk_44 (dk_at dksX1_torn_2 21 rfl rfl)
theorem dX1_torn_67 : decode cX1_torn 67 = .ok (.iconst 0, 1) := dk_3 (dk_at dksX1_torn_2 22 rfl rfl)
theorem dX1_torn_68 : decode cX1_torn 68 = .ok (.invokeinterface 180 2, 5) := by decide +kernel
theorem dX1_torn_73 : decode cX1_torn 73 = .ok (.checkcast 184, 3) := dk_192 0 184 (dk_at dksX1_torn_3 5 rfl rfl)
theorem dX1_torn_76 : decode cX1_torn 76 = .ok (.invokevirtual 186, 3) := dk_182 0 186 (dk_at dksX1_torn_3 8 rfl rfl)
theorem dX1_torn_79 : decode cX1_torn 79 = .ok (.ireturn, 1) := dk_172 (dk_at dksX1_torn_3 11 rfl rfl)
abbrev cX1_gains : ByteArray := prog_1_method_60_code
def yX1_gains : MethodName := ⟨RX1, "gains", "(IIII)[I"⟩
def dkwX1_gains_5 : List UInt8 := [180, 0, 40, 180, 0, 108, 28, 46, 46, 16, 10, 108, 21, 4, 100, 79, 176]
abbrev dktX1_gains_5 : List UInt8 := dkwX1_gains_5 ++ []
def dkwX1_gains_4 : List UInt8 := [180, 0, 108, 27, 46, 46, 16, 10, 108, 29, 100, 79, 89, 4, 42, 180, 0, 44, 180, 0, 158, 42]
abbrev dktX1_gains_4 : List UInt8 := dkwX1_gains_4 ++ dktX1_gains_5
def dkwX1_gains_3 : List UInt8 := [180, 0, 44, 8, 182, 0, 206, 87, 5, 188, 10, 89, 3, 42, 180, 0, 44, 180, 0, 158, 42, 180, 0, 40]
abbrev dktX1_gains_3 : List UInt8 := dkwX1_gains_3 ++ dktX1_gains_4
def dkwX1_gains_2 : List UInt8 := [28, 162, 0, 8, 21, 4, 167, 0, 4, 29, 4, 160, 0, 7, 4, 167, 0, 4, 3, 182, 1, 62, 42]
abbrev dktX1_gains_2 : List UInt8 := dkwX1_gains_2 ++ dktX1_gains_3
def dkwX1_gains_1 : List UInt8 := [167, 0, 5, 21, 4, 4, 160, 0, 7, 4, 167, 0, 4, 3, 182, 1, 62, 42, 27, 28, 184, 0, 16, 27]
abbrev dktX1_gains_1 : List UInt8 := dkwX1_gains_1 ++ dktX1_gains_2
def dkwX1_gains_0 : List UInt8 := [42, 180, 0, 44, 42, 180, 0, 40, 182, 0, 224, 87, 42, 27, 28, 184, 0, 10, 27, 28, 162, 0, 7, 29]
abbrev dktX1_gains_0 : List UInt8 := dkwX1_gains_0 ++ dktX1_gains_1
theorem dksX1_gains_0 : cX1_gains.data.toList.drop 0 = dktX1_gains_0 := by decide +kernel
theorem dksX1_gains_1 : cX1_gains.data.toList.drop 24 = dktX1_gains_1 := dk_seg dksX1_gains_0 24 rfl rfl
theorem dksX1_gains_2 : cX1_gains.data.toList.drop 48 = dktX1_gains_2 := dk_seg dksX1_gains_1 24 rfl rfl
theorem dksX1_gains_3 : cX1_gains.data.toList.drop 71 = dktX1_gains_3 := dk_seg dksX1_gains_2 23 rfl rfl
theorem dksX1_gains_4 : cX1_gains.data.toList.drop 95 = dktX1_gains_4 := dk_seg dksX1_gains_3 24 rfl rfl
theorem dksX1_gains_5 : cX1_gains.data.toList.drop 117 = dktX1_gains_5 := dk_seg dksX1_gains_4 22 rfl rfl
theorem dX1_gains_0 : decode cX1_gains 0 = .ok (.aload_n 0, 1) := dk_42 (dk_at dksX1_gains_0 0 rfl rfl)
theorem dX1_gains_1 : decode cX1_gains 1 = .ok (.getfield 44, 3) := dk_180 0 44 (dk_at dksX1_gains_0 1 rfl rfl)
theorem dX1_gains_4 : decode cX1_gains 4 = .ok (.aload_n 0, 1) := dk_42 (dk_at dksX1_gains_0 4 rfl rfl)
theorem dX1_gains_5 : decode cX1_gains 5 = .ok (.getfield 40, 3) := dk_180 0 40 (dk_at dksX1_gains_0 5 rfl rfl)
theorem dX1_gains_8 : decode cX1_gains 8 = .ok (.invokevirtual 224, 3) := dk_182 0 224 (dk_at dksX1_gains_0 8 rfl rfl)
theorem dX1_gains_11 : decode cX1_gains 11 = .ok (.pop, 1) := dk_87 (dk_at dksX1_gains_0 11 rfl rfl)
theorem dX1_gains_12 : decode cX1_gains 12 = .ok (.aload_n 0, 1) := dk_42 (dk_at dksX1_gains_0 12 rfl rfl)
theorem dX1_gains_13 : decode cX1_gains 13 = .ok (.iload_n 1, 1) := dk_27 (dk_at dksX1_gains_0 13 rfl rfl)
theorem dX1_gains_14 : decode cX1_gains 14 = .ok (.iload_n 2, 1) := dk_28 (dk_at dksX1_gains_0 14 rfl rfl)
theorem dX1_gains_15 : decode cX1_gains 15 = .ok (.invokestatic 10, 3) := dk_184 0 10 (dk_at dksX1_gains_0 15 rfl rfl)
theorem dX1_gains_18 : decode cX1_gains 18 = .ok (.iload_n 1, 1) := dk_27 (dk_at dksX1_gains_0 18 rfl rfl)
theorem dX1_gains_19 : decode cX1_gains 19 = .ok (.iload_n 2, 1) := dk_28 (dk_at dksX1_gains_0 19 rfl rfl)
theorem dX1_gains_20 : decode cX1_gains 20 = .ok (.if_icmp .ge 7, 3) := dk_162 0 7 (dk_at dksX1_gains_0 20 rfl rfl)
theorem dX1_gains_23 : decode cX1_gains 23 = .ok (.iload_n 3, 1) := dk_29 (dk_at dksX1_gains_0 23 rfl rfl)
theorem dX1_gains_24 : decode cX1_gains 24 = .ok (.goto 5, 3) := dk_167 0 5 (dk_at dksX1_gains_1 0 rfl rfl)
theorem dX1_gains_27 : decode cX1_gains 27 = .ok (.iload 4, 2) := dk_21 4 (dk_at dksX1_gains_1 3 rfl rfl)
theorem dX1_gains_29 : decode cX1_gains 29 = .ok (.iconst 1, 1) := dk_4 (dk_at dksX1_gains_1 5 rfl rfl)
theorem dX1_gains_30 : decode cX1_gains 30 = .ok (.if_icmp .ne 7, 3) := dk_160 0 7 (dk_at dksX1_gains_1 6 rfl rfl)
theorem dX1_gains_33 : decode cX1_gains 33 = .ok (.iconst 1, 1) := dk_4 (dk_at dksX1_gains_1 9 rfl rfl)
theorem dX1_gains_34 : decode cX1_gains 34 = .ok (.goto 4, 3) := dk_167 0 4 (dk_at dksX1_gains_1 10 rfl rfl)
theorem dX1_gains_37 : decode cX1_gains 37 = .ok (.iconst 0, 1) := dk_3 (dk_at dksX1_gains_1 13 rfl rfl)
theorem dX1_gains_38 : decode cX1_gains 38 = .ok (.invokevirtual 318, 3) := dk_182 1 62 (dk_at dksX1_gains_1 14 rfl rfl)
theorem dX1_gains_41 : decode cX1_gains 41 = .ok (.aload_n 0, 1) := dk_42 (dk_at dksX1_gains_1 17 rfl rfl)
theorem dX1_gains_42 : decode cX1_gains 42 = .ok (.iload_n 1, 1) := dk_27 (dk_at dksX1_gains_1 18 rfl rfl)
theorem dX1_gains_43 : decode cX1_gains 43 = .ok (.iload_n 2, 1) := dk_28 (dk_at dksX1_gains_1 19 rfl rfl)
theorem dX1_gains_44 : decode cX1_gains 44 = .ok (.invokestatic 16, 3) := dk_184 0 16 (dk_at dksX1_gains_1 20 rfl rfl)
theorem dX1_gains_47 : decode cX1_gains 47 = .ok (.iload_n 1, 1) := dk_27 (dk_at dksX1_gains_1 23 rfl rfl)
theorem dX1_gains_48 : decode cX1_gains 48 = .ok (.iload_n 2, 1) := dk_28 (dk_at dksX1_gains_2 0 rfl rfl)
theorem dX1_gains_49 : decode cX1_gains 49 = .ok (.if_icmp .ge 8, 3) := dk_162 0 8 (dk_at dksX1_gains_2 1 rfl rfl)
theorem dX1_gains_52 : decode cX1_gains 52 = .ok (.iload 4, 2) := dk_21 4 (dk_at dksX1_gains_2 4 rfl rfl)
theorem dX1_gains_54 : decode cX1_gains 54 = .ok (.goto 4, 3) := dk_167 0 4 (dk_at dksX1_gains_2 6 rfl rfl)
theorem dX1_gains_57 : decode cX1_gains 57 = .ok (.iload_n 3, 1) := dk_29 (dk_at dksX1_gains_2 9 rfl rfl)
theorem dX1_gains_58 : decode cX1_gains 58 = .ok (.iconst 1, 1) := dk_4 (dk_at dksX1_gains_2 10 rfl rfl)
theorem dX1_gains_59 : decode cX1_gains 59 = .ok (.if_icmp .ne 7, 3) := dk_160 0 7 (dk_at dksX1_gains_2 11 rfl rfl)
theorem dX1_gains_62 : decode cX1_gains 62 = .ok (.iconst 1, 1) := dk_4 (dk_at dksX1_gains_2 14 rfl rfl)
theorem dX1_gains_63 : decode cX1_gains 63 = .ok (.goto 4, 3) := dk_167 0 4 (dk_at dksX1_gains_2 15 rfl rfl)
theorem dX1_gains_66 : decode cX1_gains 66 = .ok (.iconst 0, 1) := dk_3 (dk_at dksX1_gains_2 18 rfl rfl)
theorem dX1_gains_67 : decode cX1_gains 67 = .ok (.invokevirtual 318, 3) := dk_182 1 62 (dk_at dksX1_gains_2 19 rfl rfl)
theorem dX1_gains_70 : decode cX1_gains 70 = .ok (.aload_n 0, 1) := dk_42 (dk_at dksX1_gains_2 22 rfl rfl)
theorem dX1_gains_71 : decode cX1_gains 71 = .ok (.getfield 44, 3) := dk_180 0 44 (dk_at dksX1_gains_3 0 rfl rfl)
theorem dX1_gains_74 : decode cX1_gains 74 = .ok (.iconst 5, 1) := dk_8 (dk_at dksX1_gains_3 3 rfl rfl)
theorem dX1_gains_75 : decode cX1_gains 75 = .ok (.invokevirtual 206, 3) := dk_182 0 206 (dk_at dksX1_gains_3 4 rfl rfl)
theorem dX1_gains_78 : decode cX1_gains 78 = .ok (.pop, 1) := dk_87 (dk_at dksX1_gains_3 7 rfl rfl)
theorem dX1_gains_79 : decode cX1_gains 79 = .ok (.iconst 2, 1) := dk_5 (dk_at dksX1_gains_3 8 rfl rfl)
theorem dX1_gains_80 : decode cX1_gains 80 = .ok (.newarray .int, 2) := dk_188_10 (dk_at dksX1_gains_3 9 rfl rfl)
theorem dX1_gains_82 : decode cX1_gains 82 = .ok (.dup, 1) := dk_89 (dk_at dksX1_gains_3 11 rfl rfl)
theorem dX1_gains_83 : decode cX1_gains 83 = .ok (.iconst 0, 1) := dk_3 (dk_at dksX1_gains_3 12 rfl rfl)
theorem dX1_gains_84 : decode cX1_gains 84 = .ok (.aload_n 0, 1) := dk_42 (dk_at dksX1_gains_3 13 rfl rfl)
theorem dX1_gains_85 : decode cX1_gains 85 = .ok (.getfield 44, 3) := dk_180 0 44 (dk_at dksX1_gains_3 14 rfl rfl)
theorem dX1_gains_88 : decode cX1_gains 88 = .ok (.getfield 158, 3) := dk_180 0 158 (dk_at dksX1_gains_3 17 rfl rfl)
theorem dX1_gains_91 : decode cX1_gains 91 = .ok (.aload_n 0, 1) := dk_42 (dk_at dksX1_gains_3 20 rfl rfl)
theorem dX1_gains_92 : decode cX1_gains 92 = .ok (.getfield 40, 3) := dk_180 0 40 (dk_at dksX1_gains_3 21 rfl rfl)
theorem dX1_gains_95 : decode cX1_gains 95 = .ok (.getfield 108, 3) := dk_180 0 108 (dk_at dksX1_gains_4 0 rfl rfl)
theorem dX1_gains_98 : decode cX1_gains 98 = .ok (.iload_n 1, 1) := dk_27 (dk_at dksX1_gains_4 3 rfl rfl)
theorem dX1_gains_99 : decode cX1_gains 99 = .ok (.iaload, 1) := dk_46 (dk_at dksX1_gains_4 4 rfl rfl)
theorem dX1_gains_100 : decode cX1_gains 100 = .ok (.iaload, 1) := dk_46 (dk_at dksX1_gains_4 5 rfl rfl)
theorem dX1_gains_101 : decode cX1_gains 101 = .ok (.bipush 10, 2) := dk_16 10 (dk_at dksX1_gains_4 6 rfl rfl)
theorem dX1_gains_103 : decode cX1_gains 103 = .ok (.idiv, 1) := dk_108 (dk_at dksX1_gains_4 8 rfl rfl)
theorem dX1_gains_104 : decode cX1_gains 104 = .ok (.iload_n 3, 1) := dk_29 (dk_at dksX1_gains_4 9 rfl rfl)
theorem dX1_gains_105 : decode cX1_gains 105 = .ok (.isub, 1) := dk_100 (dk_at dksX1_gains_4 10 rfl rfl)
theorem dX1_gains_106 : decode cX1_gains 106 = .ok (.iastore, 1) := dk_79 (dk_at dksX1_gains_4 11 rfl rfl)
theorem dX1_gains_107 : decode cX1_gains 107 = .ok (.dup, 1) := dk_89 (dk_at dksX1_gains_4 12 rfl rfl)
theorem dX1_gains_108 : decode cX1_gains 108 = .ok (.iconst 1, 1) := dk_4 (dk_at dksX1_gains_4 13 rfl rfl)
theorem dX1_gains_109 : decode cX1_gains 109 = .ok (.aload_n 0, 1) := dk_42 (dk_at dksX1_gains_4 14 rfl rfl)
theorem dX1_gains_110 : decode cX1_gains 110 = .ok (.getfield 44, 3) := dk_180 0 44 (dk_at dksX1_gains_4 15 rfl rfl)
theorem dX1_gains_113 : decode cX1_gains 113 = .ok (.getfield 158, 3) := dk_180 0 158 (dk_at dksX1_gains_4 18 rfl rfl)
theorem dX1_gains_116 : decode cX1_gains 116 = .ok (.aload_n 0, 1) := dk_42 (dk_at dksX1_gains_4 21 rfl rfl)
theorem dX1_gains_117 : decode cX1_gains 117 = .ok (.getfield 40, 3) := dk_180 0 40 (dk_at dksX1_gains_5 0 rfl rfl)
theorem dX1_gains_120 : decode cX1_gains 120 = .ok (.getfield 108, 3) := dk_180 0 108 (dk_at dksX1_gains_5 3 rfl rfl)
theorem dX1_gains_123 : decode cX1_gains 123 = .ok (.iload_n 2, 1) := dk_28 (dk_at dksX1_gains_5 6 rfl rfl)
theorem dX1_gains_124 : decode cX1_gains 124 = .ok (.iaload, 1) := dk_46 (dk_at dksX1_gains_5 7 rfl rfl)
theorem dX1_gains_125 : decode cX1_gains 125 = .ok (.iaload, 1) := dk_46 (dk_at dksX1_gains_5 8 rfl rfl)
theorem dX1_gains_126 : decode cX1_gains 126 = .ok (.bipush 10, 2) := dk_16 10 (dk_at dksX1_gains_5 9 rfl rfl)
theorem dX1_gains_128 : decode cX1_gains 128 = .ok (.idiv, 1) := dk_108 (dk_at dksX1_gains_5 11 rfl rfl)
theorem dX1_gains_129 : decode cX1_gains 129 = .ok (.iload 4, 2) := dk_21 4 (dk_at dksX1_gains_5 12 rfl rfl)
theorem dX1_gains_131 : decode cX1_gains 131 = .ok (.isub, 1) := dk_100 (dk_at dksX1_gains_5 14 rfl rfl)
theorem dX1_gains_132 : decode cX1_gains 132 = .ok (.iastore, 1) := dk_79 (dk_at dksX1_gains_5 15 rfl rfl)
theorem dX1_gains_133 : decode cX1_gains 133 = .ok (.areturn, 1) := dk_176 (dk_at dksX1_gains_5 16 rfl rfl)
abbrev cX1_game : ByteArray := prog_1_method_61_code
def yX1_game : MethodName := ⟨RX1, "game", "(III)I"⟩
def dkwX1_game_6 : List UInt8 := [154, 0, 8, 21, 4, 167, 0, 5, 21, 5, 172]
abbrev dktX1_game_6 : List UInt8 := dkwX1_game_6 ++ []
def dkwX1_game_5 : List UInt8 := [104, 21, 7, 96, 54, 5, 132, 4, 1, 132, 7, 1, 167, 255, 172, 132, 6, 1, 167, 255, 157, 29]
abbrev dktX1_game_5 : List UInt8 := dkwX1_game_5 ++ dktX1_game_6
def dkwX1_game_4 : List UInt8 := [182, 1, 66, 4, 46, 25, 8, 4, 46, 164, 0, 6, 167, 0, 21, 21, 4, 154, 0, 13, 16, 10, 21, 6]
abbrev dktX1_game_4 : List UInt8 := dkwX1_game_4 ++ dktX1_game_5
def dkwX1_game_3 : List UInt8 := [21, 7, 182, 1, 66, 3, 46, 25, 8, 3, 46, 163, 0, 45, 42, 27, 28, 21, 6, 4, 21, 7, 100]
abbrev dktX1_game_3 : List UInt8 := dkwX1_game_3 ++ dktX1_game_4
def dkwX1_game_2 : List UInt8 := [5, 162, 0, 84, 42, 27, 28, 21, 6, 21, 7, 182, 1, 66, 58, 8, 42, 27, 28, 4, 21, 6, 100]
abbrev dktX1_game_2 : List UInt8 := dkwX1_game_2 ++ dktX1_game_3
def dkwX1_game_1 : List UInt8 := [3, 184, 0, 74, 3, 54, 4, 2, 54, 5, 3, 54, 6, 21, 6, 5, 162, 0, 99, 3, 54, 7, 21, 7]
abbrev dktX1_game_1 : List UInt8 := dkwX1_game_1 ++ dktX1_game_2
def dkwX1_game_0 : List UInt8 := [42, 27, 182, 0, 170, 42, 28, 182, 0, 170, 29, 4, 184, 0, 173, 27, 28, 159, 0, 7, 4, 167, 0, 4]
abbrev dktX1_game_0 : List UInt8 := dkwX1_game_0 ++ dktX1_game_1
theorem dksX1_game_0 : cX1_game.data.toList.drop 0 = dktX1_game_0 := by decide +kernel
theorem dksX1_game_1 : cX1_game.data.toList.drop 24 = dktX1_game_1 := dk_seg dksX1_game_0 24 rfl rfl
theorem dksX1_game_2 : cX1_game.data.toList.drop 48 = dktX1_game_2 := dk_seg dksX1_game_1 24 rfl rfl
theorem dksX1_game_3 : cX1_game.data.toList.drop 71 = dktX1_game_3 := dk_seg dksX1_game_2 23 rfl rfl
theorem dksX1_game_4 : cX1_game.data.toList.drop 94 = dktX1_game_4 := dk_seg dksX1_game_3 23 rfl rfl
theorem dksX1_game_5 : cX1_game.data.toList.drop 118 = dktX1_game_5 := dk_seg dksX1_game_4 24 rfl rfl
theorem dksX1_game_6 : cX1_game.data.toList.drop 140 = dktX1_game_6 := dk_seg dksX1_game_5 22 rfl rfl
theorem dX1_game_0 : decode cX1_game 0 = .ok (.aload_n 0, 1) := dk_42 (dk_at dksX1_game_0 0 rfl rfl)
theorem dX1_game_1 : decode cX1_game 1 = .ok (.iload_n 1, 1) := dk_27 (dk_at dksX1_game_0 1 rfl rfl)
theorem dX1_game_2 : decode cX1_game 2 = .ok (.invokevirtual 170, 3) := dk_182 0 170 (dk_at dksX1_game_0 2 rfl rfl)
theorem dX1_game_5 : decode cX1_game 5 = .ok (.aload_n 0, 1) := dk_42 (dk_at dksX1_game_0 5 rfl rfl)
theorem dX1_game_6 : decode cX1_game 6 = .ok (.iload_n 2, 1) := dk_28 (dk_at dksX1_game_0 6 rfl rfl)
theorem dX1_game_7 : decode cX1_game 7 = .ok (.invokevirtual 170, 3) := dk_182 0 170 (dk_at dksX1_game_0 7 rfl rfl)
theorem dX1_game_10 : decode cX1_game 10 = .ok (.iload_n 3, 1) := dk_29 (dk_at dksX1_game_0 10 rfl rfl)
theorem dX1_game_11 : decode cX1_game 11 = .ok (.iconst 1, 1) := dk_4 (dk_at dksX1_game_0 11 rfl rfl)
theorem dX1_game_12 : decode cX1_game 12 = .ok (.invokestatic 173, 3) := dk_184 0 173 (dk_at dksX1_game_0 12 rfl rfl)
theorem dX1_game_15 : decode cX1_game 15 = .ok (.iload_n 1, 1) := dk_27 (dk_at dksX1_game_0 15 rfl rfl)
theorem dX1_game_16 : decode cX1_game 16 = .ok (.iload_n 2, 1) := dk_28 (dk_at dksX1_game_0 16 rfl rfl)
theorem dX1_game_17 : decode cX1_game 17 = .ok (.if_icmp .eq 7, 3) := dk_159 0 7 (dk_at dksX1_game_0 17 rfl rfl)
theorem dX1_game_20 : decode cX1_game 20 = .ok (.iconst 1, 1) := dk_4 (dk_at dksX1_game_0 20 rfl rfl)
theorem dX1_game_21 : decode cX1_game 21 = .ok (.goto 4, 3) := dk_167 0 4 (dk_at dksX1_game_0 21 rfl rfl)
theorem dX1_game_24 : decode cX1_game 24 = .ok (.iconst 0, 1) := dk_3 (dk_at dksX1_game_1 0 rfl rfl)
theorem dX1_game_25 : decode cX1_game 25 = .ok (.invokestatic 74, 3) := dk_184 0 74 (dk_at dksX1_game_1 1 rfl rfl)
theorem dX1_game_28 : decode cX1_game 28 = .ok (.iconst 0, 1) := dk_3 (dk_at dksX1_game_1 4 rfl rfl)
theorem dX1_game_29 : decode cX1_game 29 = .ok (.istore 4, 2) := dk_54 4 (dk_at dksX1_game_1 5 rfl rfl)
theorem dX1_game_31 : decode cX1_game 31 = .ok (.iconst (-1), 1) := dk_2 (dk_at dksX1_game_1 7 rfl rfl)
theorem dX1_game_32 : decode cX1_game 32 = .ok (.istore 5, 2) := dk_54 5 (dk_at dksX1_game_1 8 rfl rfl)
theorem dX1_game_34 : decode cX1_game 34 = .ok (.iconst 0, 1) := dk_3 (dk_at dksX1_game_1 10 rfl rfl)
theorem dX1_game_35 : decode cX1_game 35 = .ok (.istore 6, 2) := dk_54 6 (dk_at dksX1_game_1 11 rfl rfl)
theorem dX1_game_37 : decode cX1_game 37 = .ok (.iload 6, 2) := dk_21 6 (dk_at dksX1_game_1 13 rfl rfl)
theorem dX1_game_39 : decode cX1_game 39 = .ok (.iconst 2, 1) := dk_5 (dk_at dksX1_game_1 15 rfl rfl)
theorem dX1_game_40 : decode cX1_game 40 = .ok (.if_icmp .ge 99, 3) := dk_162 0 99 (dk_at dksX1_game_1 16 rfl rfl)
theorem dX1_game_43 : decode cX1_game 43 = .ok (.iconst 0, 1) := dk_3 (dk_at dksX1_game_1 19 rfl rfl)
theorem dX1_game_44 : decode cX1_game 44 = .ok (.istore 7, 2) := dk_54 7 (dk_at dksX1_game_1 20 rfl rfl)
theorem dX1_game_46 : decode cX1_game 46 = .ok (.iload 7, 2) := dk_21 7 (dk_at dksX1_game_1 22 rfl rfl)
theorem dX1_game_48 : decode cX1_game 48 = .ok (.iconst 2, 1) := dk_5 (dk_at dksX1_game_2 0 rfl rfl)
theorem dX1_game_49 : decode cX1_game 49 = .ok (.if_icmp .ge 84, 3) := dk_162 0 84 (dk_at dksX1_game_2 1 rfl rfl)
theorem dX1_game_52 : decode cX1_game 52 = .ok (.aload_n 0, 1) := dk_42 (dk_at dksX1_game_2 4 rfl rfl)
theorem dX1_game_53 : decode cX1_game 53 = .ok (.iload_n 1, 1) := dk_27 (dk_at dksX1_game_2 5 rfl rfl)
theorem dX1_game_54 : decode cX1_game 54 = .ok (.iload_n 2, 1) := dk_28 (dk_at dksX1_game_2 6 rfl rfl)
theorem dX1_game_55 : decode cX1_game 55 = .ok (.iload 6, 2) := dk_21 6 (dk_at dksX1_game_2 7 rfl rfl)
theorem dX1_game_57 : decode cX1_game 57 = .ok (.iload 7, 2) := dk_21 7 (dk_at dksX1_game_2 9 rfl rfl)
theorem dX1_game_59 : decode cX1_game 59 = .ok (.invokevirtual 322, 3) := dk_182 1 66 (dk_at dksX1_game_2 11 rfl rfl)
theorem dX1_game_62 : decode cX1_game 62 = .ok (.astore 8, 2) := dk_58 8 (dk_at dksX1_game_2 14 rfl rfl)
theorem dX1_game_64 : decode cX1_game 64 = .ok (.aload_n 0, 1) := dk_42 (dk_at dksX1_game_2 16 rfl rfl)
theorem dX1_game_65 : decode cX1_game 65 = .ok (.iload_n 1, 1) := dk_27 (dk_at dksX1_game_2 17 rfl rfl)
theorem dX1_game_66 : decode cX1_game 66 = .ok (.iload_n 2, 1) := dk_28 (dk_at dksX1_game_2 18 rfl rfl)
theorem dX1_game_67 : decode cX1_game 67 = .ok (.iconst 1, 1) := dk_4 (dk_at dksX1_game_2 19 rfl rfl)
theorem dX1_game_68 : decode cX1_game 68 = .ok (.iload 6, 2) := dk_21 6 (dk_at dksX1_game_2 20 rfl rfl)
theorem dX1_game_70 : decode cX1_game 70 = .ok (.isub, 1) := dk_100 (dk_at dksX1_game_2 22 rfl rfl)
theorem dX1_game_71 : decode cX1_game 71 = .ok (.iload 7, 2) := dk_21 7 (dk_at dksX1_game_3 0 rfl rfl)
theorem dX1_game_73 : decode cX1_game 73 = .ok (.invokevirtual 322, 3) := dk_182 1 66 (dk_at dksX1_game_3 2 rfl rfl)
theorem dX1_game_76 : decode cX1_game 76 = .ok (.iconst 0, 1) := dk_3 (dk_at dksX1_game_3 5 rfl rfl)
theorem dX1_game_77 : decode cX1_game 77 = .ok (.iaload, 1) := dk_46 (dk_at dksX1_game_3 6 rfl rfl)
theorem dX1_game_78 : decode cX1_game 78 = .ok (.aload 8, 2) := dk_25 8 (dk_at dksX1_game_3 7 rfl rfl)
theorem dX1_game_80 : decode cX1_game 80 = .ok (.iconst 0, 1) := dk_3 (dk_at dksX1_game_3 9 rfl rfl)
theorem dX1_game_81 : decode cX1_game 81 = .ok (.iaload, 1) := dk_46 (dk_at dksX1_game_3 10 rfl rfl)
theorem dX1_game_82 : decode cX1_game 82 = .ok (.if_icmp .gt 45, 3) := dk_163 0 45 (dk_at dksX1_game_3 11 rfl rfl)
theorem dX1_game_85 : decode cX1_game 85 = .ok (.aload_n 0, 1) := dk_42 (dk_at dksX1_game_3 14 rfl rfl)
theorem dX1_game_86 : decode cX1_game 86 = .ok (.iload_n 1, 1) := dk_27 (dk_at dksX1_game_3 15 rfl rfl)
theorem dX1_game_87 : decode cX1_game 87 = .ok (.iload_n 2, 1) := dk_28 (dk_at dksX1_game_3 16 rfl rfl)
theorem dX1_game_88 : decode cX1_game 88 = .ok (.iload 6, 2) := dk_21 6 (dk_at dksX1_game_3 17 rfl rfl)
theorem dX1_game_90 : decode cX1_game 90 = .ok (.iconst 1, 1) := dk_4 (dk_at dksX1_game_3 19 rfl rfl)
theorem dX1_game_91 : decode cX1_game 91 = .ok (.iload 7, 2) := dk_21 7 (dk_at dksX1_game_3 20 rfl rfl)
theorem dX1_game_93 : decode cX1_game 93 = .ok (.isub, 1) := dk_100 (dk_at dksX1_game_3 22 rfl rfl)
theorem dX1_game_94 : decode cX1_game 94 = .ok (.invokevirtual 322, 3) := dk_182 1 66 (dk_at dksX1_game_4 0 rfl rfl)
theorem dX1_game_97 : decode cX1_game 97 = .ok (.iconst 1, 1) := dk_4 (dk_at dksX1_game_4 3 rfl rfl)
theorem dX1_game_98 : decode cX1_game 98 = .ok (.iaload, 1) := dk_46 (dk_at dksX1_game_4 4 rfl rfl)
theorem dX1_game_99 : decode cX1_game 99 = .ok (.aload 8, 2) := dk_25 8 (dk_at dksX1_game_4 5 rfl rfl)
theorem dX1_game_101 : decode cX1_game 101 = .ok (.iconst 1, 1) := dk_4 (dk_at dksX1_game_4 7 rfl rfl)
theorem dX1_game_102 : decode cX1_game 102 = .ok (.iaload, 1) := dk_46 (dk_at dksX1_game_4 8 rfl rfl)
theorem dX1_game_103 : decode cX1_game 103 = .ok (.if_icmp .le 6, 3) := dk_164 0 6 (dk_at dksX1_game_4 9 rfl rfl)
theorem dX1_game_106 : decode cX1_game 106 = .ok (.goto 21, 3) := dk_167 0 21 (dk_at dksX1_game_4 12 rfl rfl)
theorem dX1_game_109 : decode cX1_game 109 = .ok (.iload 4, 2) := dk_21 4 (dk_at dksX1_game_4 15 rfl rfl)
theorem dX1_game_111 : decode cX1_game 111 = .ok (.ifCond .ne 13, 3) := dk_154 0 13 (dk_at dksX1_game_4 17 rfl rfl)
theorem dX1_game_114 : decode cX1_game 114 = .ok (.bipush 10, 2) := dk_16 10 (dk_at dksX1_game_4 20 rfl rfl)
theorem dX1_game_116 : decode cX1_game 116 = .ok (.iload 6, 2) := dk_21 6 (dk_at dksX1_game_4 22 rfl rfl)
theorem dX1_game_118 : decode cX1_game 118 = .ok (.imul, 1) := dk_104 (dk_at dksX1_game_5 0 rfl rfl)
theorem dX1_game_119 : decode cX1_game 119 = .ok (.iload 7, 2) := dk_21 7 (dk_at dksX1_game_5 1 rfl rfl)
theorem dX1_game_121 : decode cX1_game 121 = .ok (.iadd, 1) := dk_96 (dk_at dksX1_game_5 3 rfl rfl)
theorem dX1_game_122 : decode cX1_game 122 = .ok (.istore 5, 2) := dk_54 5 (dk_at dksX1_game_5 4 rfl rfl)
theorem dX1_game_124 : decode cX1_game 124 = .ok (.iinc 4 1, 3) := dk_132 4 1 (dk_at dksX1_game_5 6 rfl rfl)
theorem dX1_game_127 : decode cX1_game 127 = .ok (.iinc 7 1, 3) := dk_132 7 1 (dk_at dksX1_game_5 9 rfl rfl)
theorem dX1_game_130 : decode cX1_game 130 = .ok (.goto (-84), 3) := dk_167 255 172 (dk_at dksX1_game_5 12 rfl rfl)
theorem dX1_game_133 : decode cX1_game 133 = .ok (.iinc 6 1, 3) := dk_132 6 1 (dk_at dksX1_game_5 15 rfl rfl)
theorem dX1_game_136 : decode cX1_game 136 = .ok (.goto (-99), 3) := dk_167 255 157 (dk_at dksX1_game_5 18 rfl rfl)
theorem dX1_game_139 : decode cX1_game 139 = .ok (.iload_n 3, 1) := dk_29 (dk_at dksX1_game_5 21 rfl rfl)
theorem dX1_game_140 : decode cX1_game 140 = .ok (.ifCond .ne 8, 3) := dk_154 0 8 (dk_at dksX1_game_6 0 rfl rfl)
theorem dX1_game_143 : decode cX1_game 143 = .ok (.iload 4, 2) := dk_21 4 (dk_at dksX1_game_6 3 rfl rfl)
theorem dX1_game_145 : decode cX1_game 145 = .ok (.goto 5, 3) := dk_167 0 5 (dk_at dksX1_game_6 5 rfl rfl)
theorem dX1_game_148 : decode cX1_game 148 = .ok (.iload 5, 2) := dk_21 5 (dk_at dksX1_game_6 8 rfl rfl)
theorem dX1_game_150 : decode cX1_game 150 = .ok (.ireturn, 1) := dk_172 (dk_at dksX1_game_6 10 rfl rfl)
