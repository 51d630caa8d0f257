set_option maxRecDepth 100000
abbrev cX4_thrown : ByteArray := prog_12_method_2_code
def yX4_thrown : MethodName := ⟨RX4, "thrown", "()I"⟩
theorem dX4_thrown_0 : decode cX4_thrown 0 = .ok (.aload_n 0, 1) := by decide +kernel
theorem dX4_thrown_1 : decode cX4_thrown 1 = .ok (.getfield 117, 3) := by decide +kernel
theorem dX4_thrown_4 : decode cX4_thrown 4 = .ok (.ireturn, 1) := by decide +kernel
abbrev cX4_lays : ByteArray := prog_12_method_10_code
def yX4_lays : MethodName := ⟨RX4, "lays", "(I)V"⟩
def dkwX4_lays_1 : List UInt8 := [89, 180, 0, 120, 4, 96, 181, 0, 120, 132, 2, 248, 167, 255, 223, 177]
abbrev dktX4_lays_1 : List UInt8 := dkwX4_lays_1 ++ []
def dkwX4_lays_0 : List UInt8 := [16, 24, 61, 28, 155, 0, 35, 42, 180, 0, 35, 42, 180, 0, 120, 27, 28, 122, 17, 0, 255, 126, 79, 42]
abbrev dktX4_lays_0 : List UInt8 := dkwX4_lays_0 ++ dktX4_lays_1
theorem dksX4_lays_0 : cX4_lays.data.toList.drop 0 = dktX4_lays_0 := by decide +kernel
theorem dksX4_lays_1 : cX4_lays.data.toList.drop 24 = dktX4_lays_1 := dk_seg dksX4_lays_0 24 rfl rfl
theorem dX4_lays_0 : decode cX4_lays 0 = .ok (.bipush 24, 2) := dk_16 24 (dk_at dksX4_lays_0 0 rfl rfl)
theorem dX4_lays_2 : decode cX4_lays 2 = .ok (.istore_n 2, 1) := dk_61 (dk_at dksX4_lays_0 2 rfl rfl)
theorem dX4_lays_3 : decode cX4_lays 3 = .ok (.iload_n 2, 1) := dk_28 (dk_at dksX4_lays_0 3 rfl rfl)
theorem dX4_lays_4 : decode cX4_lays 4 = .ok (.ifCond .lt 35, 3) := dk_155 0 35 (dk_at dksX4_lays_0 4 rfl rfl)
theorem dX4_lays_7 : decode cX4_lays 7 = .ok (.aload_n 0, 1) := dk_42 (dk_at dksX4_lays_0 7 rfl rfl)
theorem dX4_lays_8 : decode cX4_lays 8 = .ok (.getfield 35, 3) := dk_180 0 35 (dk_at dksX4_lays_0 8 rfl rfl)
theorem dX4_lays_11 : decode cX4_lays 11 = .ok (.aload_n 0, 1) := dk_42 (dk_at dksX4_lays_0 11 rfl rfl)
theorem dX4_lays_12 : decode cX4_lays 12 = .ok (.getfield 120, 3) := dk_180 0 120 (dk_at dksX4_lays_0 12 rfl rfl)
theorem dX4_lays_15 : decode cX4_lays 15 = .ok (.iload_n 1, 1) := dk_27 (dk_at dksX4_lays_0 15 rfl rfl)
theorem dX4_lays_16 : decode cX4_lays 16 = .ok (.iload_n 2, 1) := dk_28 (dk_at dksX4_lays_0 16 rfl rfl)
theorem dX4_lays_17 : decode cX4_lays 17 = .ok (.ishr, 1) := dk_122 (dk_at dksX4_lays_0 17 rfl rfl)
theorem dX4_lays_18 : decode cX4_lays 18 = .ok (.sipush 255, 3) := dk_17 0 255 (dk_at dksX4_lays_0 18 rfl rfl)
theorem dX4_lays_21 : decode cX4_lays 21 = .ok (.iand, 1) := dk_126 (dk_at dksX4_lays_0 21 rfl rfl)
theorem dX4_lays_22 : decode cX4_lays 22 = .ok (.iastore, 1) := dk_79 (dk_at dksX4_lays_0 22 rfl rfl)
theorem dX4_lays_23 : decode cX4_lays 23 = .ok (.aload_n 0, 1) := dk_42 (dk_at dksX4_lays_0 23 rfl rfl)
theorem dX4_lays_24 : decode cX4_lays 24 = .ok (.dup, 1) := dk_89 (dk_at dksX4_lays_1 0 rfl rfl)
theorem dX4_lays_25 : decode cX4_lays 25 = .ok (.getfield 120, 3) := dk_180 0 120 (dk_at dksX4_lays_1 1 rfl rfl)
theorem dX4_lays_28 : decode cX4_lays 28 = .ok (.iconst 1, 1) := dk_4 (dk_at dksX4_lays_1 4 rfl rfl)
theorem dX4_lays_29 : decode cX4_lays 29 = .ok (.iadd, 1) := dk_96 (dk_at dksX4_lays_1 5 rfl rfl)
theorem dX4_lays_30 : decode cX4_lays 30 = .ok (.putfield 120, 3) := dk_181 0 120 (dk_at dksX4_lays_1 6 rfl rfl)
theorem dX4_lays_33 : decode cX4_lays 33 = .ok (.iinc 2 (-8), 3) := dk_132 2 248 (dk_at dksX4_lays_1 9 rfl rfl)
theorem dX4_lays_36 : decode cX4_lays 36 = .ok (.goto (-33), 3) := dk_167 255 223 (dk_at dksX4_lays_1 12 rfl rfl)
theorem dX4_lays_39 : decode cX4_lays 39 = .ok (.return_, 1) := dk_177 (dk_at dksX4_lays_1 15 rfl rfl)
abbrev cX4_feed : ByteArray := prog_12_method_9_code
def yX4_feed : MethodName := ⟨RX4, "feed", "(IIIII)I"⟩
def dkwX4_feed_2 : List UInt8 := [182, 0, 123, 42, 180, 0, 120, 172]
abbrev dktX4_feed_2 : List UInt8 := dkwX4_feed_2 ++ []
def dkwX4_feed_1 : List UInt8 := [182, 0, 123, 42, 28, 182, 0, 123, 42, 29, 182, 0, 123, 42, 21, 4, 182, 0, 123, 42, 21, 5]
abbrev dktX4_feed_1 : List UInt8 := dkwX4_feed_1 ++ dktX4_feed_2
def dkwX4_feed_0 : List UInt8 := [42, 3, 181, 0, 117, 42, 180, 0, 120, 16, 20, 96, 17, 2, 188, 164, 0, 5, 2, 172, 42, 27]
abbrev dktX4_feed_0 : List UInt8 := dkwX4_feed_0 ++ dktX4_feed_1
theorem dksX4_feed_0 : cX4_feed.data.toList.drop 0 = dktX4_feed_0 := by decide +kernel
theorem dksX4_feed_1 : cX4_feed.data.toList.drop 22 = dktX4_feed_1 := dk_seg dksX4_feed_0 22 rfl rfl
theorem dksX4_feed_2 : cX4_feed.data.toList.drop 44 = dktX4_feed_2 := dk_seg dksX4_feed_1 22 rfl rfl
theorem dX4_feed_0 : decode cX4_feed 0 = .ok (.aload_n 0, 1) := dk_42 (dk_at dksX4_feed_0 0 rfl rfl)
theorem dX4_feed_1 : decode cX4_feed 1 = .ok (.iconst 0, 1) := dk_3 (dk_at dksX4_feed_0 1 rfl rfl)
theorem dX4_feed_2 : decode cX4_feed 2 = .ok (.putfield 117, 3) := dk_181 0 117 (dk_at dksX4_feed_0 2 rfl rfl)
theorem dX4_feed_5 : decode cX4_feed 5 = .ok (.aload_n 0, 1) := dk_42 (dk_at dksX4_feed_0 5 rfl rfl)
theorem dX4_feed_6 : decode cX4_feed 6 = .ok (.getfield 120, 3) := dk_180 0 120 (dk_at dksX4_feed_0 6 rfl rfl)
theorem dX4_feed_9 : decode cX4_feed 9 = .ok (.bipush 20, 2) := dk_16 20 (dk_at dksX4_feed_0 9 rfl rfl)
theorem dX4_feed_11 : decode cX4_feed 11 = .ok (.iadd, 1) := dk_96 (dk_at dksX4_feed_0 11 rfl rfl)
theorem dX4_feed_12 : decode cX4_feed 12 = .ok (.sipush 700, 3) := dk_17 2 188 (dk_at dksX4_feed_0 12 rfl rfl)
theorem dX4_feed_15 : decode cX4_feed 15 = .ok (.if_icmp .le 5, 3) := dk_164 0 5 (dk_at dksX4_feed_0 15 rfl rfl)
theorem dX4_feed_18 : decode cX4_feed 18 = .ok (.iconst (-1), 1) := dk_2 (dk_at dksX4_feed_0 18 rfl rfl)
theorem dX4_feed_19 : decode cX4_feed 19 = .ok (.ireturn, 1) := dk_172 (dk_at dksX4_feed_0 19 rfl rfl)
theorem dX4_feed_20 : decode cX4_feed 20 = .ok (.aload_n 0, 1) := dk_42 (dk_at dksX4_feed_0 20 rfl rfl)
theorem dX4_feed_21 : decode cX4_feed 21 = .ok (.iload_n 1, 1) := dk_27 (dk_at dksX4_feed_0 21 rfl rfl)
theorem dX4_feed_22 : decode cX4_feed 22 = .ok (.invokevirtual 123, 3) := dk_182 0 123 (dk_at dksX4_feed_1 0 rfl rfl)
theorem dX4_feed_25 : decode cX4_feed 25 = .ok (.aload_n 0, 1) := dk_42 (dk_at dksX4_feed_1 3 rfl rfl)
theorem dX4_feed_26 : decode cX4_feed 26 = .ok (.iload_n 2, 1) := dk_28 (dk_at dksX4_feed_1 4 rfl rfl)
theorem dX4_feed_27 : decode cX4_feed 27 = .ok (.invokevirtual 123, 3) := dk_182 0 123 (dk_at dksX4_feed_1 5 rfl rfl)
theorem dX4_feed_30 : decode cX4_feed 30 = .ok (.aload_n 0, 1) := dk_42 (dk_at dksX4_feed_1 8 rfl rfl)
theorem dX4_feed_31 : decode cX4_feed 31 = .ok (.iload_n 3, 1) := dk_29 (dk_at dksX4_feed_1 9 rfl rfl)
theorem dX4_feed_32 : decode cX4_feed 32 = .ok (.invokevirtual 123, 3) := dk_182 0 123 (dk_at dksX4_feed_1 10 rfl rfl)
theorem dX4_feed_35 : decode cX4_feed 35 = .ok (.aload_n 0, 1) := dk_42 (dk_at dksX4_feed_1 13 rfl rfl)
theorem dX4_feed_36 : decode cX4_feed 36 = .ok (.iload 4, 2) := dk_21 4 (dk_at dksX4_feed_1 14 rfl rfl)
theorem dX4_feed_38 : decode cX4_feed 38 = .ok (.invokevirtual 123, 3) := dk_182 0 123 (dk_at dksX4_feed_1 16 rfl rfl)
theorem dX4_feed_41 : decode cX4_feed 41 = .ok (.aload_n 0, 1) := dk_42 (dk_at dksX4_feed_1 19 rfl rfl)
theorem dX4_feed_42 : decode cX4_feed 42 = .ok (.iload 5, 2) := dk_21 5 (dk_at dksX4_feed_1 20 rfl rfl)
theorem dX4_feed_44 : decode cX4_feed 44 = .ok (.invokevirtual 123, 3) := dk_182 0 123 (dk_at dksX4_feed_2 0 rfl rfl)
theorem dX4_feed_47 : decode cX4_feed 47 = .ok (.aload_n 0, 1) := dk_42 (dk_at dksX4_feed_2 3 rfl rfl)
theorem dX4_feed_48 : decode cX4_feed 48 = .ok (.getfield 120, 3) := dk_180 0 120 (dk_at dksX4_feed_2 4 rfl rfl)
theorem dX4_feed_51 : decode cX4_feed 51 = .ok (.ireturn, 1) := dk_172 (dk_at dksX4_feed_2 7 rfl rfl)
abbrev cX4_copies : ByteArray := prog_12_method_7_code
def yX4_copies : MethodName := ⟨RX4, "copies", "([I[I)V"⟩
def dkwX4_copies_0 : List UInt8 := [3, 62, 29, 43, 190, 162, 0, 15, 44, 29, 43, 29, 46, 79, 132, 3, 1, 167, 255, 241, 177]
abbrev dktX4_copies_0 : List UInt8 := dkwX4_copies_0 ++ []
theorem dksX4_copies_0 : cX4_copies.data.toList.drop 0 = dktX4_copies_0 := by decide +kernel
theorem dX4_copies_0 : decode cX4_copies 0 = .ok (.iconst 0, 1) := dk_3 (dk_at dksX4_copies_0 0 rfl rfl)
theorem dX4_copies_1 : decode cX4_copies 1 = .ok (.istore_n 3, 1) := dk_62 (dk_at dksX4_copies_0 1 rfl rfl)
theorem dX4_copies_2 : decode cX4_copies 2 = .ok (.iload_n 3, 1) := dk_29 (dk_at dksX4_copies_0 2 rfl rfl)
theorem dX4_copies_3 : decode cX4_copies 3 = .ok (.aload_n 1, 1) := dk_43 (dk_at dksX4_copies_0 3 rfl rfl)
theorem dX4_copies_4 : decode cX4_copies 4 = .ok (.arraylength, 1) := dk_190 (dk_at dksX4_copies_0 4 rfl rfl)
theorem dX4_copies_5 : decode cX4_copies 5 = .ok (.if_icmp .ge 15, 3) := dk_162 0 15 (dk_at dksX4_copies_0 5 rfl rfl)
theorem dX4_copies_8 : decode cX4_copies 8 = .ok (.aload_n 2, 1) := dk_44 (dk_at dksX4_copies_0 8 rfl rfl)
theorem dX4_copies_9 : decode cX4_copies 9 = .ok (.iload_n 3, 1) := dk_29 (dk_at dksX4_copies_0 9 rfl rfl)
theorem dX4_copies_10 : decode cX4_copies 10 = .ok (.aload_n 1, 1) := dk_43 (dk_at dksX4_copies_0 10 rfl rfl)
theorem dX4_copies_11 : decode cX4_copies 11 = .ok (.iload_n 3, 1) := dk_29 (dk_at dksX4_copies_0 11 rfl rfl)
theorem dX4_copies_12 : decode cX4_copies 12 = .ok (.iaload, 1) := dk_46 (dk_at dksX4_copies_0 12 rfl rfl)
theorem dX4_copies_13 : decode cX4_copies 13 = .ok (.iastore, 1) := dk_79 (dk_at dksX4_copies_0 13 rfl rfl)
theorem dX4_copies_14 : decode cX4_copies 14 = .ok (.iinc 3 1, 3) := dk_132 3 1 (dk_at dksX4_copies_0 14 rfl rfl)
theorem dX4_copies_17 : decode cX4_copies 17 = .ok (.goto (-15), 3) := dk_167 255 241 (dk_at dksX4_copies_0 17 rfl rfl)
theorem dX4_copies_20 : decode cX4_copies 20 = .ok (.return_, 1) := dk_177 (dk_at dksX4_copies_0 20 rfl rfl)
abbrev cX4_byteAt : ByteArray := prog_12_method_11_code
def yX4_byteAt : MethodName := ⟨RX4, "byteAt", "(I)I"⟩
def dkwX4_byteAt_0 : List UInt8 := [27, 42, 180, 0, 127, 162, 0, 12, 42, 180, 0, 35, 27, 46, 167, 0, 4, 3, 172]
abbrev dktX4_byteAt_0 : List UInt8 := dkwX4_byteAt_0 ++ []
theorem dksX4_byteAt_0 : cX4_byteAt.data.toList.drop 0 = dktX4_byteAt_0 := by decide +kernel
theorem dX4_byteAt_0 : decode cX4_byteAt 0 = .ok (.iload_n 1, 1) := dk_27 (dk_at dksX4_byteAt_0 0 rfl rfl)
theorem dX4_byteAt_1 : decode cX4_byteAt 1 = .ok (.aload_n 0, 1) := dk_42 (dk_at dksX4_byteAt_0 1 rfl rfl)
theorem dX4_byteAt_2 : decode cX4_byteAt 2 = .ok (.getfield 127, 3) := dk_180 0 127 (dk_at dksX4_byteAt_0 2 rfl rfl)
theorem dX4_byteAt_5 : decode cX4_byteAt 5 = .ok (.if_icmp .ge 12, 3) := dk_162 0 12 (dk_at dksX4_byteAt_0 5 rfl rfl)
theorem dX4_byteAt_8 : decode cX4_byteAt 8 = .ok (.aload_n 0, 1) := dk_42 (dk_at dksX4_byteAt_0 8 rfl rfl)
theorem dX4_byteAt_9 : decode cX4_byteAt 9 = .ok (.getfield 35, 3) := dk_180 0 35 (dk_at dksX4_byteAt_0 9 rfl rfl)
theorem dX4_byteAt_12 : decode cX4_byteAt 12 = .ok (.iload_n 1, 1) := dk_27 (dk_at dksX4_byteAt_0 12 rfl rfl)
theorem dX4_byteAt_13 : decode cX4_byteAt 13 = .ok (.iaload, 1) := dk_46 (dk_at dksX4_byteAt_0 13 rfl rfl)
theorem dX4_byteAt_14 : decode cX4_byteAt 14 = .ok (.goto 4, 3) := dk_167 0 4 (dk_at dksX4_byteAt_0 14 rfl rfl)
theorem dX4_byteAt_17 : decode cX4_byteAt 17 = .ok (.iconst 0, 1) := dk_3 (dk_at dksX4_byteAt_0 17 rfl rfl)
theorem dX4_byteAt_18 : decode cX4_byteAt 18 = .ok (.ireturn, 1) := dk_172 (dk_at dksX4_byteAt_0 18 rfl rfl)
abbrev cX4_isDigit : ByteArray := prog_12_method_13_code
def yX4_isDigit : MethodName := ⟨RX4, "isDigit", "(I)Z"⟩
def dkwX4_isDigit_0 : List UInt8 := [26, 16, 48, 161, 0, 13, 26, 16, 57, 163, 0, 7, 4, 167, 0, 4, 3, 172]
abbrev dktX4_isDigit_0 : List UInt8 := dkwX4_isDigit_0 ++ []
theorem dksX4_isDigit_0 : cX4_isDigit.data.toList.drop 0 = dktX4_isDigit_0 := by decide +kernel
theorem dX4_isDigit_0 : decode cX4_isDigit 0 = .ok (.iload_n 0, 1) := dk_26 (dk_at dksX4_isDigit_0 0 rfl rfl)
theorem dX4_isDigit_1 : decode cX4_isDigit 1 = .ok (.bipush 48, 2) := dk_16 48 (dk_at dksX4_isDigit_0 1 rfl rfl)
theorem dX4_isDigit_3 : decode cX4_isDigit 3 = .ok (.if_icmp .lt 13, 3) := dk_161 0 13 (dk_at dksX4_isDigit_0 3 rfl rfl)
theorem dX4_isDigit_6 : decode cX4_isDigit 6 = .ok (.iload_n 0, 1) := dk_26 (dk_at dksX4_isDigit_0 6 rfl rfl)
theorem dX4_isDigit_7 : decode cX4_isDigit 7 = .ok (.bipush 57, 2) := dk_16 57 (dk_at dksX4_isDigit_0 7 rfl rfl)
theorem dX4_isDigit_9 : decode cX4_isDigit 9 = .ok (.if_icmp .gt 7, 3) := dk_163 0 7 (dk_at dksX4_isDigit_0 9 rfl rfl)
theorem dX4_isDigit_12 : decode cX4_isDigit 12 = .ok (.iconst 1, 1) := dk_4 (dk_at dksX4_isDigit_0 12 rfl rfl)
theorem dX4_isDigit_13 : decode cX4_isDigit 13 = .ok (.goto 4, 3) := dk_167 0 4 (dk_at dksX4_isDigit_0 13 rfl rfl)
theorem dX4_isDigit_16 : decode cX4_isDigit 16 = .ok (.iconst 0, 1) := dk_3 (dk_at dksX4_isDigit_0 16 rfl rfl)
theorem dX4_isDigit_17 : decode cX4_isDigit 17 = .ok (.ireturn, 1) := dk_172 (dk_at dksX4_isDigit_0 17 rfl rfl)
abbrev cX4_isLetter : ByteArray := prog_12_method_12_code
def yX4_isLetter : MethodName := ⟨RX4, "isLetter", "(I)Z"⟩
def dkwX4_isLetter_0 : List UInt8 := [26, 16, 97, 161, 0, 13, 26, 16, 122, 163, 0, 7, 4, 167, 0, 4, 3, 172]
abbrev dktX4_isLetter_0 : List UInt8 := dkwX4_isLetter_0 ++ []
theorem dksX4_isLetter_0 : cX4_isLetter.data.toList.drop 0 = dktX4_isLetter_0 := by decide +kernel
theorem dX4_isLetter_0 : decode cX4_isLetter 0 = .ok (.iload_n 0, 1) := dk_26 (dk_at dksX4_isLetter_0 0 rfl rfl)
theorem dX4_isLetter_1 : decode cX4_isLetter 1 = .ok (.bipush 97, 2) := dk_16 97 (dk_at dksX4_isLetter_0 1 rfl rfl)
theorem dX4_isLetter_3 : decode cX4_isLetter 3 = .ok (.if_icmp .lt 13, 3) := dk_161 0 13 (dk_at dksX4_isLetter_0 3 rfl rfl)
theorem dX4_isLetter_6 : decode cX4_isLetter 6 = .ok (.iload_n 0, 1) := dk_26 (dk_at dksX4_isLetter_0 6 rfl rfl)
theorem dX4_isLetter_7 : decode cX4_isLetter 7 = .ok (.bipush 122, 2) := dk_16 122 (dk_at dksX4_isLetter_0 7 rfl rfl)
theorem dX4_isLetter_9 : decode cX4_isLetter 9 = .ok (.if_icmp .gt 7, 3) := dk_163 0 7 (dk_at dksX4_isLetter_0 9 rfl rfl)
theorem dX4_isLetter_12 : decode cX4_isLetter 12 = .ok (.iconst 1, 1) := dk_4 (dk_at dksX4_isLetter_0 12 rfl rfl)
theorem dX4_isLetter_13 : decode cX4_isLetter 13 = .ok (.goto 4, 3) := dk_167 0 4 (dk_at dksX4_isLetter_0 13 rfl rfl)
theorem dX4_isLetter_16 : decode cX4_isLetter 16 = .ok (.iconst 0, 1) := dk_3 (dk_at dksX4_isLetter_0 16 rfl rfl)
theorem dX4_isLetter_17 : decode cX4_isLetter 17 = .ok (.ireturn, 1) := dk_172 (dk_at dksX4_isLetter_0 17 rfl rfl)
abbrev cX4_goes : ByteArray := prog_12_method_14_code
def yX4_goes : MethodName := ⟨RX4, "goes", "()V"⟩
def dkwX4_goes_14 : List UInt8 := [167, 0, 4, 7, 181, 0, 150, 42, 42, 180, 0, 130, 42, 180, 0, 137, 100, 181, 0, 160, 177]
abbrev dktX4_goes_14 : List UInt8 := dkwX4_goes_14 ++ []
def dkwX4_goes_13 : List UInt8 := [16, 42, 159, 0, 21, 27, 16, 47, 159, 0, 15, 27, 16, 60, 159, 0, 9, 27, 16, 61, 160, 0, 7, 6]
abbrev dktX4_goes_13 : List UInt8 := dkwX4_goes_13 ++ dktX4_goes_14
def dkwX4_goes_12 : List UInt8 := [16, 40, 159, 0, 45, 27, 16, 41, 159, 0, 39, 27, 16, 43, 159, 0, 33, 27, 16, 45, 159, 0, 27, 27]
abbrev dktX4_goes_12 : List UInt8 := dkwX4_goes_12 ++ dktX4_goes_13
def dkwX4_goes_11 : List UInt8 := [181, 0, 150, 167, 0, 76, 42, 89, 180, 0, 130, 4, 96, 181, 0, 130, 42, 27, 16, 59, 159, 0, 51, 27]
abbrev dktX4_goes_11 : List UInt8 := dkwX4_goes_11 ++ dktX4_goes_12
def dkwX4_goes_10 : List UInt8 := [96, 16, 48, 100, 181, 0, 144, 42, 89, 180, 0, 130, 4, 96, 181, 0, 130, 167, 255, 196, 42, 5]
abbrev dktX4_goes_10 : List UInt8 := dkwX4_goes_10 ++ dktX4_goes_11
def dkwX4_goes_9 : List UInt8 := [180, 0, 137, 100, 7, 162, 0, 26, 42, 16, 10, 42, 180, 0, 144, 104, 42, 42, 180, 0, 130, 182, 0, 133]
abbrev dktX4_goes_9 : List UInt8 := dkwX4_goes_9 ++ dktX4_goes_10
def dkwX4_goes_8 : List UInt8 := [153, 0, 74, 42, 42, 180, 0, 130, 182, 0, 133, 184, 0, 157, 153, 0, 52, 42, 180, 0, 130, 42]
abbrev dktX4_goes_8 : List UInt8 := dkwX4_goes_8 ++ dktX4_goes_9
def dkwX4_goes_7 : List UInt8 := [180, 0, 130, 4, 96, 181, 0, 130, 167, 255, 195, 42, 4, 181, 0, 150, 167, 0, 154, 27, 184, 0, 157]
abbrev dktX4_goes_7 : List UInt8 := dkwX4_goes_7 ++ dktX4_goes_8
def dkwX4_goes_6 : List UInt8 := [180, 0, 140, 8, 121, 42, 42, 180, 0, 130, 182, 0, 133, 16, 96, 100, 133, 129, 181, 0, 140, 42, 89]
abbrev dktX4_goes_6 : List UInt8 := dkwX4_goes_6 ++ dktX4_goes_7
def dkwX4_goes_5 : List UInt8 := [184, 0, 153, 153, 0, 53, 42, 180, 0, 130, 42, 180, 0, 137, 100, 16, 7, 162, 0, 26, 42, 42]
abbrev dktX4_goes_5 : List UInt8 := dkwX4_goes_5 ++ dktX4_goes_6
def dkwX4_goes_4 : List UInt8 := [3, 181, 0, 150, 167, 0, 233, 27, 184, 0, 153, 153, 0, 75, 42, 42, 180, 0, 130, 182, 0, 133]
abbrev dktX4_goes_4 : List UInt8 := dkwX4_goes_4 ++ dktX4_goes_5
def dkwX4_goes_3 : List UInt8 := [180, 0, 130, 182, 0, 133, 60, 42, 27, 181, 0, 147, 42, 180, 0, 130, 42, 180, 0, 127, 161, 0, 11, 42]
abbrev dktX4_goes_3 : List UInt8 := dkwX4_goes_3 ++ dktX4_goes_4
def dkwX4_goes_2 : List UInt8 := [167, 255, 209, 42, 42, 180, 0, 130, 181, 0, 137, 42, 9, 181, 0, 140, 42, 3, 181, 0, 144, 42, 42]
abbrev dktX4_goes_2 : List UInt8 := dkwX4_goes_2 ++ dktX4_goes_3
def dkwX4_goes_1 : List UInt8 := [42, 42, 180, 0, 130, 182, 0, 133, 16, 10, 160, 0, 16, 42, 89, 180, 0, 130, 4, 96, 181, 0, 130]
abbrev dktX4_goes_1 : List UInt8 := dkwX4_goes_1 ++ dktX4_goes_2
def dkwX4_goes_0 : List UInt8 := [42, 180, 0, 130, 42, 180, 0, 127, 162, 0, 42, 42, 42, 180, 0, 130, 182, 0, 133, 16, 32, 159, 0, 16]
abbrev dktX4_goes_0 : List UInt8 := dkwX4_goes_0 ++ dktX4_goes_1
theorem dksX4_goes_0 : cX4_goes.data.toList.drop 0 = dktX4_goes_0 := by decide +kernel
theorem dksX4_goes_1 : cX4_goes.data.toList.drop 24 = dktX4_goes_1 := dk_seg dksX4_goes_0 24 rfl rfl
theorem dksX4_goes_2 : cX4_goes.data.toList.drop 47 = dktX4_goes_2 := dk_seg dksX4_goes_1 23 rfl rfl
theorem dksX4_goes_3 : cX4_goes.data.toList.drop 70 = dktX4_goes_3 := dk_seg dksX4_goes_2 23 rfl rfl
theorem dksX4_goes_4 : cX4_goes.data.toList.drop 94 = dktX4_goes_4 := dk_seg dksX4_goes_3 24 rfl rfl
theorem dksX4_goes_5 : cX4_goes.data.toList.drop 116 = dktX4_goes_5 := dk_seg dksX4_goes_4 22 rfl rfl
theorem dksX4_goes_6 : cX4_goes.data.toList.drop 138 = dktX4_goes_6 := dk_seg dksX4_goes_5 22 rfl rfl
theorem dksX4_goes_7 : cX4_goes.data.toList.drop 161 = dktX4_goes_7 := dk_seg dksX4_goes_6 23 rfl rfl
theorem dksX4_goes_8 : cX4_goes.data.toList.drop 184 = dktX4_goes_8 := dk_seg dksX4_goes_7 23 rfl rfl
theorem dksX4_goes_9 : cX4_goes.data.toList.drop 206 = dktX4_goes_9 := dk_seg dksX4_goes_8 22 rfl rfl
theorem dksX4_goes_10 : cX4_goes.data.toList.drop 230 = dktX4_goes_10 := dk_seg dksX4_goes_9 24 rfl rfl
theorem dksX4_goes_11 : cX4_goes.data.toList.drop 252 = dktX4_goes_11 := dk_seg dksX4_goes_10 22 rfl rfl
theorem dksX4_goes_12 : cX4_goes.data.toList.drop 276 = dktX4_goes_12 := dk_seg dksX4_goes_11 24 rfl rfl
theorem dksX4_goes_13 : cX4_goes.data.toList.drop 300 = dktX4_goes_13 := dk_seg dksX4_goes_12 24 rfl rfl
theorem dksX4_goes_14 : cX4_goes.data.toList.drop 324 = dktX4_goes_14 := dk_seg dksX4_goes_13 24 rfl rfl
theorem dX4_goes_0 : decode cX4_goes 0 = .ok (.aload_n 0, 1) := dk_42 (dk_at dksX4_goes_0 0 rfl rfl)
theorem dX4_goes_1 : decode cX4_goes 1 = .ok (.getfield 130, 3) := dk_180 0 130 (dk_at dksX4_goes_0 1 rfl rfl)
theorem dX4_goes_4 : decode cX4_goes 4 = .ok (.aload_n 0, 1) := dk_42 (dk_at dksX4_goes_0 4 rfl rfl)
theorem dX4_goes_5 : decode cX4_goes 5 = .ok (.getfield 127, 3) := dk_180 0 127 (dk_at dksX4_goes_0 5 rfl rfl)
theorem dX4_goes_8 : decode cX4_goes 8 = .ok (.if_icmp .ge 42, 3) := dk_162 0 42 (dk_at dksX4_goes_0 8 rfl rfl)
theorem dX4_goes_11 : decode cX4_goes 11 = .ok (.aload_n 0, 1) := dk_42 (dk_at dksX4_goes_0 11 rfl rfl)
theorem dX4_goes_12 : decode cX4_goes 12 = .ok (.aload_n 0, 1) := dk_42 (dk_at dksX4_goes_0 12 rfl rfl)
theorem dX4_goes_13 : decode cX4_goes 13 = .ok (.getfield 130, 3) := dk_180 0 130 (dk_at dksX4_goes_0 13 rfl rfl)
theorem dX4_goes_16 : decode cX4_goes 16 = .ok (.invokevirtual 133, 3) := dk_182 0 133 (dk_at dksX4_goes_0 16 rfl rfl)
theorem dX4_goes_19 : decode cX4_goes 19 = .ok (.bipush 32, 2) := dk_16 32 (dk_at dksX4_goes_0 19 rfl rfl)
theorem dX4_goes_21 : decode cX4_goes 21 = .ok (.if_icmp .eq 16, 3) := dk_159 0 16 (dk_at dksX4_goes_0 21 rfl rfl)
theorem dX4_goes_24 : decode cX4_goes 24 = .ok (.aload_n 0, 1) := dk_42 (dk_at dksX4_goes_1 0 rfl rfl)
theorem dX4_goes_25 : decode cX4_goes 25 = .ok (.aload_n 0, 1) := dk_42 (dk_at dksX4_goes_1 1 rfl rfl)
theorem dX4_goes_26 : decode cX4_goes 26 = .ok (.getfield 130, 3) := dk_180 0 130 (dk_at dksX4_goes_1 2 rfl rfl)
theorem dX4_goes_29 : decode cX4_goes 29 = .ok (.invokevirtual 133, 3) := dk_182 0 133 (dk_at dksX4_goes_1 5 rfl rfl)
theorem dX4_goes_32 : decode cX4_goes 32 = .ok (.bipush 10, 2) := dk_16 10 (dk_at dksX4_goes_1 8 rfl rfl)
theorem dX4_goes_34 : decode cX4_goes 34 = .ok (.if_icmp .ne 16, 3) := dk_160 0 16 (dk_at dksX4_goes_1 10 rfl rfl)
theorem dX4_goes_37 : decode cX4_goes 37 = .ok (.aload_n 0, 1) := dk_42 (dk_at dksX4_goes_1 13 rfl rfl)
theorem dX4_goes_38 : decode cX4_goes 38 = .ok (.dup, 1) := dk_89 (dk_at dksX4_goes_1 14 rfl rfl)
theorem dX4_goes_39 : decode cX4_goes 39 = .ok (.getfield 130, 3) := dk_180 0 130 (dk_at dksX4_goes_1 15 rfl rfl)
theorem dX4_goes_42 : decode cX4_goes 42 = .ok (.iconst 1, 1) := dk_4 (dk_at dksX4_goes_1 18 rfl rfl)
theorem dX4_goes_43 : decode cX4_goes 43 = .ok (.iadd, 1) := dk_96 (dk_at dksX4_goes_1 19 rfl rfl)
theorem dX4_goes_44 : decode cX4_goes 44 = .ok (.putfield 130, 3) := dk_181 0 130 (dk_at dksX4_goes_1 20 rfl rfl)
theorem dX4_goes_47 : decode cX4_goes 47 = .ok (.goto (-47), 3) := dk_167 255 209 (dk_at dksX4_goes_2 0 rfl rfl)
theorem dX4_goes_50 : decode cX4_goes 50 = .ok (.aload_n 0, 1) := dk_42 (dk_at dksX4_goes_2 3 rfl rfl)
theorem dX4_goes_51 : decode cX4_goes 51 = .ok (.aload_n 0, 1) := dk_42 (dk_at dksX4_goes_2 4 rfl rfl)
theorem dX4_goes_52 : decode cX4_goes 52 = .ok (.getfield 130, 3) := dk_180 0 130 (dk_at dksX4_goes_2 5 rfl rfl)
theorem dX4_goes_55 : decode cX4_goes 55 = .ok (.putfield 137, 3) := dk_181 0 137 (dk_at dksX4_goes_2 8 rfl rfl)
theorem dX4_goes_58 : decode cX4_goes 58 = .ok (.aload_n 0, 1) := dk_42 (dk_at dksX4_goes_2 11 rfl rfl)
theorem dX4_goes_59 : decode cX4_goes 59 = .ok (.lconst 0, 1) := dk_9 (dk_at dksX4_goes_2 12 rfl rfl)
theorem dX4_goes_60 : decode cX4_goes 60 = .ok (.putfield 140, 3) := dk_181 0 140 (dk_at dksX4_goes_2 13 rfl rfl)
theorem dX4_goes_63 : decode cX4_goes 63 = .ok (.aload_n 0, 1) := dk_42 (dk_at dksX4_goes_2 16 rfl rfl)
theorem dX4_goes_64 : decode cX4_goes 64 = .ok (.iconst 0, 1) := dk_3 (dk_at dksX4_goes_2 17 rfl rfl)
theorem dX4_goes_65 : decode cX4_goes 65 = .ok (.putfield 144, 3) := dk_181 0 144 (dk_at dksX4_goes_2 18 rfl rfl)
theorem dX4_goes_68 : decode cX4_goes 68 = .ok (.aload_n 0, 1) := dk_42 (dk_at dksX4_goes_2 21 rfl rfl)
theorem dX4_goes_69 : decode cX4_goes 69 = .ok (.aload_n 0, 1) := dk_42 (dk_at dksX4_goes_2 22 rfl rfl)
theorem dX4_goes_70 : decode cX4_goes 70 = .ok (.getfield 130, 3) := dk_180 0 130 (dk_at dksX4_goes_3 0 rfl rfl)
theorem dX4_goes_73 : decode cX4_goes 73 = .ok (.invokevirtual 133, 3) := dk_182 0 133 (dk_at dksX4_goes_3 3 rfl rfl)
theorem dX4_goes_76 : decode cX4_goes 76 = .ok (.istore_n 1, 1) := dk_60 (dk_at dksX4_goes_3 6 rfl rfl)
theorem dX4_goes_77 : decode cX4_goes 77 = .ok (.aload_n 0, 1) := dk_42 (dk_at dksX4_goes_3 7 rfl rfl)
theorem dX4_goes_78 : decode cX4_goes 78 = .ok (.iload_n 1, 1) := dk_27 (dk_at dksX4_goes_3 8 rfl rfl)
theorem dX4_goes_79 : decode cX4_goes 79 = .ok (.putfield 147, 3) := dk_181 0 147 (dk_at dksX4_goes_3 9 rfl rfl)
theorem dX4_goes_82 : decode cX4_goes 82 = .ok (.aload_n 0, 1) := dk_42 (dk_at dksX4_goes_3 12 rfl rfl)
theorem dX4_goes_83 : decode cX4_goes 83 = .ok (.getfield 130, 3) := dk_180 0 130 (dk_at dksX4_goes_3 13 rfl rfl)
theorem dX4_goes_86 : decode cX4_goes 86 = .ok (.aload_n 0, 1) := dk_42 (dk_at dksX4_goes_3 16 rfl rfl)
theorem dX4_goes_87 : decode cX4_goes 87 = .ok (.getfield 127, 3) := dk_180 0 127 (dk_at dksX4_goes_3 17 rfl rfl)
theorem dX4_goes_90 : decode cX4_goes 90 = .ok (.if_icmp .lt 11, 3) := dk_161 0 11 (dk_at dksX4_goes_3 20 rfl rfl)
theorem dX4_goes_93 : decode cX4_goes 93 = .ok (.aload_n 0, 1) := dk_42 (dk_at dksX4_goes_3 23 rfl rfl)
theorem dX4_goes_94 : decode cX4_goes 94 = .ok (.iconst 0, 1) := dk_3 (dk_at dksX4_goes_4 0 rfl rfl)
theorem dX4_goes_95 : decode cX4_goes 95 = .ok (.putfield 150, 3) := dk_181 0 150 (dk_at dksX4_goes_4 1 rfl rfl)
theorem dX4_goes_98 : decode cX4_goes 98 = .ok (.goto 233, 3) := dk_167 0 233 (dk_at dksX4_goes_4 4 rfl rfl)
theorem dX4_goes_101 : decode cX4_goes 101 = .ok (.iload_n 1, 1) := dk_27 (dk_at dksX4_goes_4 7 rfl rfl)
theorem dX4_goes_102 : decode cX4_goes 102 = .ok (.invokestatic 153, 3) := dk_184 0 153 (dk_at dksX4_goes_4 8 rfl rfl)
theorem dX4_goes_105 : decode cX4_goes 105 = .ok (.ifCond .eq 75, 3) := dk_153 0 75 (dk_at dksX4_goes_4 11 rfl rfl)
theorem dX4_goes_108 : decode cX4_goes 108 = .ok (.aload_n 0, 1) := dk_42 (dk_at dksX4_goes_4 14 rfl rfl)
theorem dX4_goes_109 : decode cX4_goes 109 = .ok (.aload_n 0, 1) := dk_42 (dk_at dksX4_goes_4 15 rfl rfl)
theorem dX4_goes_110 : decode cX4_goes 110 = .ok (.getfield 130, 3) := dk_180 0 130 (dk_at dksX4_goes_4 16 rfl rfl)
theorem dX4_goes_113 : decode cX4_goes 113 = .ok (.invokevirtual 133, 3) := dk_182 0 133 (dk_at dksX4_goes_4 19 rfl rfl)
theorem dX4_goes_116 : decode cX4_goes 116 = .ok (.invokestatic 153, 3) := dk_184 0 153 (dk_at dksX4_goes_5 0 rfl rfl)
theorem dX4_goes_119 : decode cX4_goes 119 = .ok (.ifCond .eq 53, 3) := dk_153 0 53 (dk_at dksX4_goes_5 3 rfl rfl)
theorem dX4_goes_122 : decode cX4_goes 122 = .ok (.aload_n 0, 1) := dk_42 (dk_at dksX4_goes_5 6 rfl rfl)
theorem dX4_goes_123 : decode cX4_goes 123 = .ok (.getfield 130, 3) := dk_180 0 130 (dk_at dksX4_goes_5 7 rfl rfl)
theorem dX4_goes_126 : decode cX4_goes 126 = .ok (.aload_n 0, 1) := dk_42 (dk_at dksX4_goes_5 10 rfl rfl)
theorem dX4_goes_127 : decode cX4_goes 127 = .ok (.getfield 137, 3) := dk_180 0 137 (dk_at dksX4_goes_5 11 rfl rfl)
theorem dX4_goes_130 : decode cX4_goes 130 = .ok (.isub, 1) := dk_100 (dk_at dksX4_goes_5 14 rfl rfl)
theorem dX4_goes_131 : decode cX4_goes 131 = .ok (.bipush 7, 2) := dk_16 7 (dk_at dksX4_goes_5 15 rfl rfl)
theorem dX4_goes_133 : decode cX4_goes 133 = .ok (.if_icmp .ge 26, 3) := dk_162 0 26 (dk_at dksX4_goes_5 17 rfl rfl)
theorem dX4_goes_136 : decode cX4_goes 136 = .ok (.aload_n 0, 1) := dk_42 (dk_at dksX4_goes_5 20 rfl rfl)
theorem dX4_goes_137 : decode cX4_goes 137 = .ok (.aload_n 0, 1) := dk_42 (dk_at dksX4_goes_5 21 rfl rfl)
theorem dX4_goes_138 : decode cX4_goes 138 = .ok (.getfield 140, 3) := dk_180 0 140 (dk_at dksX4_goes_6 0 rfl rfl)
theorem dX4_goes_141 : decode cX4_goes 141 = .ok (.iconst 5, 1) := dk_8 (dk_at dksX4_goes_6 3 rfl rfl)
theorem dX4_goes_142 : decode cX4_goes 142 = .ok (.lshl, 1) := dk_121 (dk_at dksX4_goes_6 4 rfl rfl)
theorem dX4_goes_143 : decode cX4_goes 143 = .ok (.aload_n 0, 1) := dk_42 (dk_at dksX4_goes_6 5 rfl rfl)
theorem dX4_goes_144 : decode cX4_goes 144 = .ok (.aload_n 0, 1) := dk_42 (dk_at dksX4_goes_6 6 rfl rfl)
theorem dX4_goes_145 : decode cX4_goes 145 = .ok (.getfield 130, 3) := dk_180 0 130 (dk_at dksX4_goes_6 7 rfl rfl)
theorem dX4_goes_148 : decode cX4_goes 148 = .ok (.invokevirtual 133, 3) := dk_182 0 133 (dk_at dksX4_goes_6 10 rfl rfl)
theorem dX4_goes_151 : decode cX4_goes 151 = .ok (.bipush 96, 2) := dk_16 96 (dk_at dksX4_goes_6 13 rfl rfl)
theorem dX4_goes_153 : decode cX4_goes 153 = .ok (.isub, 1) := dk_100 (dk_at dksX4_goes_6 15 rfl rfl)
theorem dX4_goes_154 : decode cX4_goes 154 = .ok (.i2l, 1) := dk_133 (dk_at dksX4_goes_6 16 rfl rfl)
theorem dX4_goes_155 : decode cX4_goes 155 = .ok (.lor, 1) := dk_129 (dk_at dksX4_goes_6 17 rfl rfl)
theorem dX4_goes_156 : decode cX4_goes 156 = .ok (.putfield 140, 3) := dk_181 0 140 (dk_at dksX4_goes_6 18 rfl rfl)
theorem dX4_goes_159 : decode cX4_goes 159 = .ok (.aload_n 0, 1) := dk_42 (dk_at dksX4_goes_6 21 rfl rfl)
theorem dX4_goes_160 : decode cX4_goes 160 = .ok (.dup, 1) := dk_89 (dk_at dksX4_goes_6 22 rfl rfl)
theorem dX4_goes_161 : decode cX4_goes 161 = .ok (.getfield 130, 3) := dk_180 0 130 (dk_at dksX4_goes_7 0 rfl rfl)
theorem dX4_goes_164 : decode cX4_goes 164 = .ok (.iconst 1, 1) := dk_4 (dk_at dksX4_goes_7 3 rfl rfl)
theorem dX4_goes_165 : decode cX4_goes 165 = .ok (.iadd, 1) := dk_96 (dk_at dksX4_goes_7 4 rfl rfl)
theorem dX4_goes_166 : decode cX4_goes 166 = .ok (.putfield 130, 3) := dk_181 0 130 (dk_at dksX4_goes_7 5 rfl rfl)
theorem dX4_goes_169 : decode cX4_goes 169 = .ok (.goto (-61), 3) := dk_167 255 195 (dk_at dksX4_goes_7 8 rfl rfl)
theorem dX4_goes_172 : decode cX4_goes 172 = .ok (.aload_n 0, 1) := dk_42 (dk_at dksX4_goes_7 11 rfl rfl)
theorem dX4_goes_173 : decode cX4_goes 173 = .ok (.iconst 1, 1) := dk_4 (dk_at dksX4_goes_7 12 rfl rfl)
theorem dX4_goes_174 : decode cX4_goes 174 = .ok (.putfield 150, 3) := dk_181 0 150 (dk_at dksX4_goes_7 13 rfl rfl)
theorem dX4_goes_177 : decode cX4_goes 177 = .ok (.goto 154, 3) := dk_167 0 154 (dk_at dksX4_goes_7 16 rfl rfl)
theorem dX4_goes_180 : decode cX4_goes 180 = .ok (.iload_n 1, 1) := dk_27 (dk_at dksX4_goes_7 19 rfl rfl)
theorem dX4_goes_181 : decode cX4_goes 181 = .ok (.invokestatic 157, 3) := dk_184 0 157 (dk_at dksX4_goes_7 20 rfl rfl)
theorem dX4_goes_184 : decode cX4_goes 184 = .ok (.ifCond .eq 74, 3) := dk_153 0 74 (dk_at dksX4_goes_8 0 rfl rfl)
theorem dX4_goes_187 : decode cX4_goes 187 = .ok (.aload_n 0, 1) := dk_42 (dk_at dksX4_goes_8 3 rfl rfl)
theorem dX4_goes_188 : decode cX4_goes 188 = .ok (.aload_n 0, 1) := dk_42 (dk_at dksX4_goes_8 4 rfl rfl)
theorem dX4_goes_189 : decode cX4_goes 189 = .ok (.getfield 130, 3) := dk_180 0 130 (dk_at dksX4_goes_8 5 rfl rfl)
theorem dX4_goes_192 : decode cX4_goes 192 = .ok (.invokevirtual 133, 3) := dk_182 0 133 (dk_at dksX4_goes_8 8 rfl rfl)
theorem dX4_goes_195 : decode cX4_goes 195 = .ok (.invokestatic 157, 3) := dk_184 0 157 (dk_at dksX4_goes_8 11 rfl rfl)
theorem dX4_goes_198 : decode cX4_goes 198 = .ok (.ifCond .eq 52, 3) := dk_153 0 52 (dk_at dksX4_goes_8 14 rfl rfl)
theorem dX4_goes_201 : decode cX4_goes 201 = .ok (.aload_n 0, 1) := dk_42 (dk_at dksX4_goes_8 17 rfl rfl)
theorem dX4_goes_202 : decode cX4_goes 202 = .ok (.getfield 130, 3) := dk_180 0 130 (dk_at dksX4_goes_8 18 rfl rfl)
theorem dX4_goes_205 : decode cX4_goes 205 = .ok (.aload_n 0, 1) := dk_42 (dk_at dksX4_goes_8 21 rfl rfl)
theorem dX4_goes_206 : decode cX4_goes 206 = .ok (.getfield 137, 3) := dk_180 0 137 (dk_at dksX4_goes_9 0 rfl rfl)
theorem dX4_goes_209 : decode cX4_goes 209 = .ok (.isub, 1) := dk_100 (dk_at dksX4_goes_9 3 rfl rfl)
theorem dX4_goes_210 : decode cX4_goes 210 = .ok (.iconst 4, 1) := dk_7 (dk_at dksX4_goes_9 4 rfl rfl)
theorem dX4_goes_211 : decode cX4_goes 211 = .ok (.if_icmp .ge 26, 3) := dk_162 0 26 (dk_at dksX4_goes_9 5 rfl rfl)
theorem dX4_goes_214 : decode cX4_goes 214 = .ok (.aload_n 0, 1) := dk_42 (dk_at dksX4_goes_9 8 rfl rfl)
theorem dX4_goes_215 : decode cX4_goes 215 = .ok (.bipush 10, 2) := dk_16 10 (dk_at dksX4_goes_9 9 rfl rfl)
theorem dX4_goes_217 : decode cX4_goes 217 = .ok (.aload_n 0, 1) := dk_42 (dk_at dksX4_goes_9 11 rfl rfl)
theorem dX4_goes_218 : decode cX4_goes 218 = .ok (.getfield 144, 3) := dk_180 0 144 (dk_at dksX4_goes_9 12 rfl rfl)
theorem dX4_goes_221 : decode cX4_goes 221 = .ok (.imul, 1) := dk_104 (dk_at dksX4_goes_9 15 rfl rfl)
theorem dX4_goes_222 : decode cX4_goes 222 = .ok (.aload_n 0, 1) := dk_42 (dk_at dksX4_goes_9 16 rfl rfl)
theorem dX4_goes_223 : decode cX4_goes 223 = .ok (.aload_n 0, 1) := dk_42 (dk_at dksX4_goes_9 17 rfl rfl)
theorem dX4_goes_224 : decode cX4_goes 224 = .ok (.getfield 130, 3) := dk_180 0 130 (dk_at dksX4_goes_9 18 rfl rfl)
theorem dX4_goes_227 : decode cX4_goes 227 = .ok (.invokevirtual 133, 3) := dk_182 0 133 (dk_at dksX4_goes_9 21 rfl rfl)
theorem dX4_goes_230 : decode cX4_goes 230 = .ok (.iadd, 1) := dk_96 (dk_at dksX4_goes_10 0 rfl rfl)
theorem dX4_goes_231 : decode cX4_goes 231 = .ok (.bipush 48, 2) := dk_16 48 (dk_at dksX4_goes_10 1 rfl rfl)
theorem dX4_goes_233 : decode cX4_goes 233 = .ok (.isub, 1) := dk_100 (dk_at dksX4_goes_10 3 rfl rfl)
theorem dX4_goes_234 : decode cX4_goes 234 = .ok (.putfield 144, 3) := dk_181 0 144 (dk_at dksX4_goes_10 4 rfl rfl)
theorem dX4_goes_237 : decode cX4_goes 237 = .ok (.aload_n 0, 1) := dk_42 (dk_at dksX4_goes_10 7 rfl rfl)
theorem dX4_goes_238 : decode cX4_goes 238 = .ok (.dup, 1) := dk_89 (dk_at dksX4_goes_10 8 rfl rfl)
theorem dX4_goes_239 : decode cX4_goes 239 = .ok (.getfield 130, 3) := dk_180 0 130 (dk_at dksX4_goes_10 9 rfl rfl)
theorem dX4_goes_242 : decode cX4_goes 242 = .ok (.iconst 1, 1) := dk_4 (dk_at dksX4_goes_10 12 rfl rfl)
theorem dX4_goes_243 : decode cX4_goes 243 = .ok (.iadd, 1) := dk_96 (dk_at dksX4_goes_10 13 rfl rfl)
theorem dX4_goes_244 : decode cX4_goes 244 = .ok (.putfield 130, 3) := dk_181 0 130 (dk_at dksX4_goes_10 14 rfl rfl)
theorem dX4_goes_247 : decode cX4_goes 247 = .ok (.goto (-60), 3) := dk_167 255 196 (dk_at dksX4_goes_10 17 rfl rfl)
theorem dX4_goes_250 : decode cX4_goes 250 = .ok (.aload_n 0, 1) := dk_42 (dk_at dksX4_goes_10 20 rfl rfl)
theorem dX4_goes_251 : decode cX4_goes 251 = .ok (.iconst 2, 1) := dk_5 (dk_at dksX4_goes_10 21 rfl rfl)
theorem dX4_goes_252 : decode cX4_goes 252 = .ok (.putfield 150, 3) := dk_181 0 150 (dk_at dksX4_goes_11 0 rfl rfl)
theorem dX4_goes_255 : decode cX4_goes 255 = .ok (.goto 76, 3) := dk_167 0 76 (dk_at dksX4_goes_11 3 rfl rfl)
theorem dX4_goes_258 : decode cX4_goes 258 = .ok (.aload_n 0, 1) := dk_42 (dk_at dksX4_goes_11 6 rfl rfl)
theorem dX4_goes_259 : decode cX4_goes 259 = .ok (.dup, 1) := dk_89 (dk_at dksX4_goes_11 7 rfl rfl)
theorem dX4_goes_260 : decode cX4_goes 260 = .ok (.getfield 130, 3) := dk_180 0 130 (dk_at dksX4_goes_11 8 rfl rfl)
theorem dX4_goes_263 : decode cX4_goes 263 = .ok (.iconst 1, 1) := dk_4 (dk_at dksX4_goes_11 11 rfl rfl)
theorem dX4_goes_264 : decode cX4_goes 264 = .ok (.iadd, 1) := dk_96 (dk_at dksX4_goes_11 12 rfl rfl)
theorem dX4_goes_265 : decode cX4_goes 265 = .ok (.putfield 130, 3) := dk_181 0 130 (dk_at dksX4_goes_11 13 rfl rfl)
theorem dX4_goes_268 : decode cX4_goes 268 = .ok (.aload_n 0, 1) := dk_42 (dk_at dksX4_goes_11 16 rfl rfl)
theorem dX4_goes_269 : decode cX4_goes 269 = .ok (.iload_n 1, 1) := dk_27 (dk_at dksX4_goes_11 17 rfl rfl)
theorem dX4_goes_270 : decode cX4_goes 270 = .ok (.bipush 59, 2) := dk_16 59 (dk_at dksX4_goes_11 18 rfl rfl)
theorem dX4_goes_272 : decode cX4_goes 272 = .ok (.if_icmp .eq 51, 3) := dk_159 0 51 (dk_at dksX4_goes_11 20 rfl rfl)
theorem dX4_goes_275 : decode cX4_goes 275 = .ok (.iload_n 1, 1) := dk_27 (dk_at dksX4_goes_11 23 rfl rfl)
theorem dX4_goes_276 : decode cX4_goes 276 = .ok (.bipush 40, 2) := dk_16 40 (dk_at dksX4_goes_12 0 rfl rfl)
theorem dX4_goes_278 : decode cX4_goes 278 = .ok (.if_icmp .eq 45, 3) := dk_159 0 45 (dk_at dksX4_goes_12 2 rfl rfl)
theorem dX4_goes_281 : decode cX4_goes 281 = .ok (.iload_n 1, 1) := dk_27 (dk_at dksX4_goes_12 5 rfl rfl)
theorem dX4_goes_282 : decode cX4_goes 282 = .ok (.bipush 41, 2) := dk_16 41 (dk_at dksX4_goes_12 6 rfl rfl)
theorem dX4_goes_284 : decode cX4_goes 284 = .ok (.if_icmp .eq 39, 3) := dk_159 0 39 (dk_at dksX4_goes_12 8 rfl rfl)
theorem dX4_goes_287 : decode cX4_goes 287 = .ok (.iload_n 1, 1) := dk_27 (dk_at dksX4_goes_12 11 rfl rfl)
theorem dX4_goes_288 : decode cX4_goes 288 = .ok (.bipush 43, 2) := dk_16 43 (dk_at dksX4_goes_12 12 rfl rfl)
theorem dX4_goes_290 : decode cX4_goes 290 = .ok (.if_icmp .eq 33, 3) := dk_159 0 33 (dk_at dksX4_goes_12 14 rfl rfl)
theorem dX4_goes_293 : decode cX4_goes 293 = .ok (.iload_n 1, 1) := dk_27 (dk_at dksX4_goes_12 17 rfl rfl)
theorem dX4_goes_294 : decode cX4_goes 294 = .ok (.bipush 45, 2) := dk_16 45 (dk_at dksX4_goes_12 18 rfl rfl)
theorem dX4_goes_296 : decode cX4_goes 296 = .ok (.if_icmp .eq 27, 3) := dk_159 0 27 (dk_at dksX4_goes_12 20 rfl rfl)
theorem dX4_goes_299 : decode cX4_goes 299 = .ok (.iload_n 1, 1) := dk_27 (dk_at dksX4_goes_12 23 rfl rfl)
theorem dX4_goes_300 : decode cX4_goes 300 = .ok (.bipush 42, 2) := dk_16 42 (dk_at dksX4_goes_13 0 rfl rfl)
theorem dX4_goes_302 : decode cX4_goes 302 = .ok (.if_icmp .eq 21, 3) := dk_159 0 21 (dk_at dksX4_goes_13 2 rfl rfl)
theorem dX4_goes_305 : decode cX4_goes 305 = .ok (.iload_n 1, 1) := dk_27 (dk_at dksX4_goes_13 5 rfl rfl)
theorem dX4_goes_306 : decode cX4_goes 306 = .ok (.bipush 47, 2) := dk_16 47 (dk_at dksX4_goes_13 6 rfl rfl)
theorem dX4_goes_308 : decode cX4_goes 308 = .ok (.if_icmp .eq 15, 3) := dk_159 0 15 (dk_at dksX4_goes_13 8 rfl rfl)
theorem dX4_goes_311 : decode cX4_goes 311 = .ok (.iload_n 1, 1) := dk_27 (dk_at dksX4_goes_13 11 rfl rfl)
theorem dX4_goes_312 : decode cX4_goes 312 = .ok (.bipush 60, 2) := dk_16 60 (dk_at dksX4_goes_13 12 rfl rfl)
theorem dX4_goes_314 : decode cX4_goes 314 = .ok (.if_icmp .eq 9, 3) := dk_159 0 9 (dk_at dksX4_goes_13 14 rfl rfl)
theorem dX4_goes_317 : decode cX4_goes 317 = .ok (.iload_n 1, 1) := dk_27 (dk_at dksX4_goes_13 17 rfl rfl)
theorem dX4_goes_318 : decode cX4_goes 318 = .ok (.bipush 61, 2) := dk_16 61 (dk_at dksX4_goes_13 18 rfl rfl)
theorem dX4_goes_320 : decode cX4_goes 320 = .ok (.if_icmp .ne 7, 3) := dk_160 0 7 (dk_at dksX4_goes_13 20 rfl rfl)
theorem dX4_goes_323 : decode cX4_goes 323 = .ok (.iconst 3, 1) := dk_6 (dk_at dksX4_goes_13 23 rfl rfl)
theorem dX4_goes_324 : decode cX4_goes 324 = .ok (.goto 4, 3) := dk_167 0 4 (dk_at dksX4_goes_14 0 rfl rfl)
theorem dX4_goes_327 : decode cX4_goes 327 = .ok (.iconst 4, 1) := dk_7 (dk_at dksX4_goes_14 3 rfl rfl)
theorem dX4_goes_328 : decode cX4_goes 328 = .ok (.putfield 150, 3) := dk_181 0 150 (dk_at dksX4_goes_14 4 rfl rfl)
theorem dX4_goes_331 : decode cX4_goes 331 = .ok (.aload_n 0, 1) := dk_42 (dk_at dksX4_goes_14 7 rfl rfl)
theorem dX4_goes_332 : decode cX4_goes 332 = .ok (.aload_n 0, 1) := dk_42 (dk_at dksX4_goes_14 8 rfl rfl)
theorem dX4_goes_333 : decode cX4_goes 333 = .ok (.getfield 130, 3) := dk_180 0 130 (dk_at dksX4_goes_14 9 rfl rfl)
theorem dX4_goes_336 : decode cX4_goes 336 = .ok (.aload_n 0, 1) := dk_42 (dk_at dksX4_goes_14 12 rfl rfl)
theorem dX4_goes_337 : decode cX4_goes 337 = .ok (.getfield 137, 3) := dk_180 0 137 (dk_at dksX4_goes_14 13 rfl rfl)
theorem dX4_goes_340 : decode cX4_goes 340 = .ok (.isub, 1) := dk_100 (dk_at dksX4_goes_14 16 rfl rfl)
theorem dX4_goes_341 : decode cX4_goes 341 = .ok (.putfield 160, 3) := dk_181 0 160 (dk_at dksX4_goes_14 17 rfl rfl)
theorem dX4_goes_344 : decode cX4_goes 344 = .ok (.return_, 1) := dk_177 (dk_at dksX4_goes_14 20 rfl rfl)
abbrev cX4_isGood : ByteArray := prog_12_method_19_code
def yX4_isGood : MethodName := ⟨RX4, "isGood", "()Z"⟩
def dkwX4_isGood_0 : List UInt8 := [42, 180, 0, 173, 154, 0, 7, 4, 167, 0, 4, 3, 172]
abbrev dktX4_isGood_0 : List UInt8 := dkwX4_isGood_0 ++ []
theorem dksX4_isGood_0 : cX4_isGood.data.toList.drop 0 = dktX4_isGood_0 := by decide +kernel
theorem dX4_isGood_0 : decode cX4_isGood 0 = .ok (.aload_n 0, 1) := dk_42 (dk_at dksX4_isGood_0 0 rfl rfl)
theorem dX4_isGood_1 : decode cX4_isGood 1 = .ok (.getfield 173, 3) := dk_180 0 173 (dk_at dksX4_isGood_0 1 rfl rfl)
theorem dX4_isGood_4 : decode cX4_isGood 4 = .ok (.ifCond .ne 7, 3) := dk_154 0 7 (dk_at dksX4_isGood_0 4 rfl rfl)
theorem dX4_isGood_7 : decode cX4_isGood 7 = .ok (.iconst 1, 1) := dk_4 (dk_at dksX4_isGood_0 7 rfl rfl)
theorem dX4_isGood_8 : decode cX4_isGood 8 = .ok (.goto 4, 3) := dk_167 0 4 (dk_at dksX4_isGood_0 8 rfl rfl)
theorem dX4_isGood_11 : decode cX4_isGood 11 = .ok (.iconst 0, 1) := dk_3 (dk_at dksX4_isGood_0 11 rfl rfl)
theorem dX4_isGood_12 : decode cX4_isGood 12 = .ok (.ireturn, 1) := dk_172 (dk_at dksX4_isGood_0 12 rfl rfl)
abbrev cX4_wrong : ByteArray := prog_12_method_18_code
def yX4_wrong : MethodName := ⟨RX4, "wrong", "(I)V"⟩
def dkwX4_wrong_0 : List UInt8 := [42, 180, 0, 173, 153, 0, 4, 177, 42, 27, 181, 0, 173, 42, 42, 180, 0, 137, 181, 0, 38, 177]
abbrev dktX4_wrong_0 : List UInt8 := dkwX4_wrong_0 ++ []
theorem dksX4_wrong_0 : cX4_wrong.data.toList.drop 0 = dktX4_wrong_0 := by decide +kernel
theorem dX4_wrong_0 : decode cX4_wrong 0 = .ok (.aload_n 0, 1) := dk_42 (dk_at dksX4_wrong_0 0 rfl rfl)
theorem dX4_wrong_1 : decode cX4_wrong 1 = .ok (.getfield 173, 3) := dk_180 0 173 (dk_at dksX4_wrong_0 1 rfl rfl)
theorem dX4_wrong_4 : decode cX4_wrong 4 = .ok (.ifCond .eq 4, 3) := dk_153 0 4 (dk_at dksX4_wrong_0 4 rfl rfl)
theorem dX4_wrong_7 : decode cX4_wrong 7 = .ok (.return_, 1) := dk_177 (dk_at dksX4_wrong_0 7 rfl rfl)
theorem dX4_wrong_8 : decode cX4_wrong 8 = .ok (.aload_n 0, 1) := dk_42 (dk_at dksX4_wrong_0 8 rfl rfl)
theorem dX4_wrong_9 : decode cX4_wrong 9 = .ok (.iload_n 1, 1) := dk_27 (dk_at dksX4_wrong_0 9 rfl rfl)
theorem dX4_wrong_10 : decode cX4_wrong 10 = .ok (.putfield 173, 3) := dk_181 0 173 (dk_at dksX4_wrong_0 10 rfl rfl)
theorem dX4_wrong_13 : decode cX4_wrong 13 = .ok (.aload_n 0, 1) := dk_42 (dk_at dksX4_wrong_0 13 rfl rfl)
theorem dX4_wrong_14 : decode cX4_wrong 14 = .ok (.aload_n 0, 1) := dk_42 (dk_at dksX4_wrong_0 14 rfl rfl)
theorem dX4_wrong_15 : decode cX4_wrong 15 = .ok (.getfield 137, 3) := dk_180 0 137 (dk_at dksX4_wrong_0 15 rfl rfl)
theorem dX4_wrong_18 : decode cX4_wrong 18 = .ok (.putfield 38, 3) := dk_181 0 38 (dk_at dksX4_wrong_0 18 rfl rfl)
theorem dX4_wrong_21 : decode cX4_wrong 21 = .ok (.return_, 1) := dk_177 (dk_at dksX4_wrong_0 21 rfl rfl)
abbrev cX4_begins : ByteArray := prog_12_method_34_code
def yX4_begins : MethodName := ⟨RX4, "begins", "(ZZ)Z"⟩
def dkwX4_begins_1 : List UInt8 := [154, 0, 5, 3, 172, 42, 182, 0, 180, 4, 172]
abbrev dktX4_begins_1 : List UInt8 := dkwX4_begins_1 ++ []
def dkwX4_begins_0 : List UInt8 := [27, 153, 0, 8, 42, 5, 182, 0, 183, 28, 153, 0, 8, 42, 8, 182, 0, 183, 42, 182, 0, 176]
abbrev dktX4_begins_0 : List UInt8 := dkwX4_begins_0 ++ dktX4_begins_1
theorem dksX4_begins_0 : cX4_begins.data.toList.drop 0 = dktX4_begins_0 := by decide +kernel
theorem dksX4_begins_1 : cX4_begins.data.toList.drop 22 = dktX4_begins_1 := dk_seg dksX4_begins_0 22 rfl rfl
theorem dX4_begins_0 : decode cX4_begins 0 = .ok (.iload_n 1, 1) := dk_27 (dk_at dksX4_begins_0 0 rfl rfl)
theorem dX4_begins_1 : decode cX4_begins 1 = .ok (.ifCond .eq 8, 3) := dk_153 0 8 (dk_at dksX4_begins_0 1 rfl rfl)
theorem dX4_begins_4 : decode cX4_begins 4 = .ok (.aload_n 0, 1) := dk_42 (dk_at dksX4_begins_0 4 rfl rfl)
theorem dX4_begins_5 : decode cX4_begins 5 = .ok (.iconst 2, 1) := dk_5 (dk_at dksX4_begins_0 5 rfl rfl)
theorem dX4_begins_6 : decode cX4_begins 6 = .ok (.invokevirtual 183, 3) := dk_182 0 183 (dk_at dksX4_begins_0 6 rfl rfl)
theorem dX4_begins_9 : decode cX4_begins 9 = .ok (.iload_n 2, 1) := dk_28 (dk_at dksX4_begins_0 9 rfl rfl)
theorem dX4_begins_10 : decode cX4_begins 10 = .ok (.ifCond .eq 8, 3) := dk_153 0 8 (dk_at dksX4_begins_0 10 rfl rfl)
theorem dX4_begins_13 : decode cX4_begins 13 = .ok (.aload_n 0, 1) := dk_42 (dk_at dksX4_begins_0 13 rfl rfl)
theorem dX4_begins_14 : decode cX4_begins 14 = .ok (.iconst 5, 1) := dk_8 (dk_at dksX4_begins_0 14 rfl rfl)
theorem dX4_begins_15 : decode cX4_begins 15 = .ok (.invokevirtual 183, 3) := dk_182 0 183 (dk_at dksX4_begins_0 15 rfl rfl)
theorem dX4_begins_18 : decode cX4_begins 18 = .ok (.aload_n 0, 1) := dk_42 (dk_at dksX4_begins_0 18 rfl rfl)
theorem dX4_begins_19 : decode cX4_begins 19 = .ok (.invokevirtual 176, 3) := dk_182 0 176 (dk_at dksX4_begins_0 19 rfl rfl)
theorem dX4_begins_22 : decode cX4_begins 22 = .ok (.ifCond .ne 5, 3) := dk_154 0 5 (dk_at dksX4_begins_1 0 rfl rfl)
theorem dX4_begins_25 : decode cX4_begins 25 = .ok (.iconst 0, 1) := dk_3 (dk_at dksX4_begins_1 3 rfl rfl)
theorem dX4_begins_26 : decode cX4_begins 26 = .ok (.ireturn, 1) := dk_172 (dk_at dksX4_begins_1 4 rfl rfl)
theorem dX4_begins_27 : decode cX4_begins 27 = .ok (.aload_n 0, 1) := dk_42 (dk_at dksX4_begins_1 5 rfl rfl)
theorem dX4_begins_28 : decode cX4_begins 28 = .ok (.invokevirtual 180, 3) := dk_182 0 180 (dk_at dksX4_begins_1 6 rfl rfl)
theorem dX4_begins_31 : decode cX4_begins 31 = .ok (.iconst 1, 1) := dk_4 (dk_at dksX4_begins_1 9 rfl rfl)
theorem dX4_begins_32 : decode cX4_begins 32 = .ok (.ireturn, 1) := dk_172 (dk_at dksX4_begins_1 10 rfl rfl)
abbrev cX4_isOpen : ByteArray := prog_12_method_24_code
def yX4_isOpen : MethodName := ⟨RX4, "isOpen", "(I)Z"⟩
def dkwX4_isOpen_0 : List UInt8 := [26, 16, 14, 161, 0, 7, 4, 167, 0, 4, 3, 172]
abbrev dktX4_isOpen_0 : List UInt8 := dkwX4_isOpen_0 ++ []
theorem dksX4_isOpen_0 : cX4_isOpen.data.toList.drop 0 = dktX4_isOpen_0 := by decide +kernel
theorem dX4_isOpen_0 : decode cX4_isOpen 0 = .ok (.iload_n 0, 1) := dk_26 (dk_at dksX4_isOpen_0 0 rfl rfl)
theorem dX4_isOpen_1 : decode cX4_isOpen 1 = .ok (.bipush 14, 2) := dk_16 14 (dk_at dksX4_isOpen_0 1 rfl rfl)
theorem dX4_isOpen_3 : decode cX4_isOpen 3 = .ok (.if_icmp .lt 7, 3) := dk_161 0 7 (dk_at dksX4_isOpen_0 3 rfl rfl)
theorem dX4_isOpen_6 : decode cX4_isOpen 6 = .ok (.iconst 1, 1) := dk_4 (dk_at dksX4_isOpen_0 6 rfl rfl)
theorem dX4_isOpen_7 : decode cX4_isOpen 7 = .ok (.goto 4, 3) := dk_167 0 4 (dk_at dksX4_isOpen_0 7 rfl rfl)
theorem dX4_isOpen_10 : decode cX4_isOpen 10 = .ok (.iconst 0, 1) := dk_3 (dk_at dksX4_isOpen_0 10 rfl rfl)
theorem dX4_isOpen_11 : decode cX4_isOpen 11 = .ok (.ireturn, 1) := dk_172 (dk_at dksX4_isOpen_0 11 rfl rfl)
abbrev cX4_puts : ByteArray := prog_12_method_23_code
def yX4_puts : MethodName := ⟨RX4, "puts", "(I)V"⟩
def dkwX4_puts_0 : List UInt8 := [42, 180, 0, 56, 42, 180, 0, 186, 27, 79, 42, 89, 180, 0, 186, 4, 96, 181, 0, 186, 177]
abbrev dktX4_puts_0 : List UInt8 := dkwX4_puts_0 ++ []
theorem dksX4_puts_0 : cX4_puts.data.toList.drop 0 = dktX4_puts_0 := by decide +kernel
theorem dX4_puts_0 : decode cX4_puts 0 = .ok (.aload_n 0, 1) := dk_42 (dk_at dksX4_puts_0 0 rfl rfl)
theorem dX4_puts_1 : decode cX4_puts 1 = .ok (.getfield 56, 3) := dk_180 0 56 (dk_at dksX4_puts_0 1 rfl rfl)
theorem dX4_puts_4 : decode cX4_puts 4 = .ok (.aload_n 0, 1) := dk_42 (dk_at dksX4_puts_0 4 rfl rfl)
theorem dX4_puts_5 : decode cX4_puts 5 = .ok (.getfield 186, 3) := dk_180 0 186 (dk_at dksX4_puts_0 5 rfl rfl)
theorem dX4_puts_8 : decode cX4_puts 8 = .ok (.iload_n 1, 1) := dk_27 (dk_at dksX4_puts_0 8 rfl rfl)
theorem dX4_puts_9 : decode cX4_puts 9 = .ok (.iastore, 1) := dk_79 (dk_at dksX4_puts_0 9 rfl rfl)
theorem dX4_puts_10 : decode cX4_puts 10 = .ok (.aload_n 0, 1) := dk_42 (dk_at dksX4_puts_0 10 rfl rfl)
theorem dX4_puts_11 : decode cX4_puts 11 = .ok (.dup, 1) := dk_89 (dk_at dksX4_puts_0 11 rfl rfl)
theorem dX4_puts_12 : decode cX4_puts 12 = .ok (.getfield 186, 3) := dk_180 0 186 (dk_at dksX4_puts_0 12 rfl rfl)
theorem dX4_puts_15 : decode cX4_puts 15 = .ok (.iconst 1, 1) := dk_4 (dk_at dksX4_puts_0 15 rfl rfl)
theorem dX4_puts_16 : decode cX4_puts 16 = .ok (.iadd, 1) := dk_96 (dk_at dksX4_puts_0 16 rfl rfl)
theorem dX4_puts_17 : decode cX4_puts 17 = .ok (.putfield 186, 3) := dk_181 0 186 (dk_at dksX4_puts_0 17 rfl rfl)
theorem dX4_puts_20 : decode cX4_puts 20 = .ok (.return_, 1) := dk_177 (dk_at dksX4_puts_0 20 rfl rfl)
abbrev cX4_strength : ByteArray := prog_12_method_25_code
def yX4_strength : MethodName := ⟨RX4, "strength", "(I)I"⟩
def dkwX4_strength_2 : List UInt8 := [159, 0, 9, 26, 16, 9, 160, 0, 7, 8, 167, 0, 5, 16, 6, 172]
abbrev dktX4_strength_2 : List UInt8 := dkwX4_strength_2 ++ []
def dkwX4_strength_1 : List UInt8 := [167, 0, 37, 26, 16, 6, 159, 0, 9, 26, 16, 7, 160, 0, 7, 7, 167, 0, 21, 26, 16, 8]
abbrev dktX4_strength_1 : List UInt8 := dkwX4_strength_1 ++ dktX4_strength_2
def dkwX4_strength_0 : List UInt8 := [26, 8, 160, 0, 7, 4, 167, 0, 55, 26, 7, 160, 0, 7, 5, 167, 0, 46, 26, 6, 160, 0, 7, 6]
abbrev dktX4_strength_0 : List UInt8 := dkwX4_strength_0 ++ dktX4_strength_1
theorem dksX4_strength_0 : cX4_strength.data.toList.drop 0 = dktX4_strength_0 := by decide +kernel
theorem dksX4_strength_1 : cX4_strength.data.toList.drop 24 = dktX4_strength_1 := dk_seg dksX4_strength_0 24 rfl rfl
theorem dksX4_strength_2 : cX4_strength.data.toList.drop 46 = dktX4_strength_2 := dk_seg dksX4_strength_1 22 rfl rfl
theorem dX4_strength_0 : decode cX4_strength 0 = .ok (.iload_n 0, 1) := dk_26 (dk_at dksX4_strength_0 0 rfl rfl)
theorem dX4_strength_1 : decode cX4_strength 1 = .ok (.iconst 5, 1) := dk_8 (dk_at dksX4_strength_0 1 rfl rfl)
theorem dX4_strength_2 : decode cX4_strength 2 = .ok (.if_icmp .ne 7, 3) := dk_160 0 7 (dk_at dksX4_strength_0 2 rfl rfl)
theorem dX4_strength_5 : decode cX4_strength 5 = .ok (.iconst 1, 1) := dk_4 (dk_at dksX4_strength_0 5 rfl rfl)
theorem dX4_strength_6 : decode cX4_strength 6 = .ok (.goto 55, 3) := dk_167 0 55 (dk_at dksX4_strength_0 6 rfl rfl)
theorem dX4_strength_9 : decode cX4_strength 9 = .ok (.iload_n 0, 1) := dk_26 (dk_at dksX4_strength_0 9 rfl rfl)
theorem dX4_strength_10 : decode cX4_strength 10 = .ok (.iconst 4, 1) := dk_7 (dk_at dksX4_strength_0 10 rfl rfl)
theorem dX4_strength_11 : decode cX4_strength 11 = .ok (.if_icmp .ne 7, 3) := dk_160 0 7 (dk_at dksX4_strength_0 11 rfl rfl)
theorem dX4_strength_14 : decode cX4_strength 14 = .ok (.iconst 2, 1) := dk_5 (dk_at dksX4_strength_0 14 rfl rfl)
theorem dX4_strength_15 : decode cX4_strength 15 = .ok (.goto 46, 3) := dk_167 0 46 (dk_at dksX4_strength_0 15 rfl rfl)
theorem dX4_strength_18 : decode cX4_strength 18 = .ok (.iload_n 0, 1) := dk_26 (dk_at dksX4_strength_0 18 rfl rfl)
theorem dX4_strength_19 : decode cX4_strength 19 = .ok (.iconst 3, 1) := dk_6 (dk_at dksX4_strength_0 19 rfl rfl)
theorem dX4_strength_20 : decode cX4_strength 20 = .ok (.if_icmp .ne 7, 3) := dk_160 0 7 (dk_at dksX4_strength_0 20 rfl rfl)
theorem dX4_strength_23 : decode cX4_strength 23 = .ok (.iconst 3, 1) := dk_6 (dk_at dksX4_strength_0 23 rfl rfl)
theorem dX4_strength_24 : decode cX4_strength 24 = .ok (.goto 37, 3) := dk_167 0 37 (dk_at dksX4_strength_1 0 rfl rfl)
theorem dX4_strength_27 : decode cX4_strength 27 = .ok (.iload_n 0, 1) := dk_26 (dk_at dksX4_strength_1 3 rfl rfl)
theorem dX4_strength_28 : decode cX4_strength 28 = .ok (.bipush 6, 2) := dk_16 6 (dk_at dksX4_strength_1 4 rfl rfl)
theorem dX4_strength_30 : decode cX4_strength 30 = .ok (.if_icmp .eq 9, 3) := dk_159 0 9 (dk_at dksX4_strength_1 6 rfl rfl)
theorem dX4_strength_33 : decode cX4_strength 33 = .ok (.iload_n 0, 1) := dk_26 (dk_at dksX4_strength_1 9 rfl rfl)
theorem dX4_strength_34 : decode cX4_strength 34 = .ok (.bipush 7, 2) := dk_16 7 (dk_at dksX4_strength_1 10 rfl rfl)
theorem dX4_strength_36 : decode cX4_strength 36 = .ok (.if_icmp .ne 7, 3) := dk_160 0 7 (dk_at dksX4_strength_1 12 rfl rfl)
theorem dX4_strength_39 : decode cX4_strength 39 = .ok (.iconst 4, 1) := dk_7 (dk_at dksX4_strength_1 15 rfl rfl)
theorem dX4_strength_40 : decode cX4_strength 40 = .ok (.goto 21, 3) := dk_167 0 21 (dk_at dksX4_strength_1 16 rfl rfl)
theorem dX4_strength_43 : decode cX4_strength 43 = .ok (.iload_n 0, 1) := dk_26 (dk_at dksX4_strength_1 19 rfl rfl)
theorem dX4_strength_44 : decode cX4_strength 44 = .ok (.bipush 8, 2) := dk_16 8 (dk_at dksX4_strength_1 20 rfl rfl)
theorem dX4_strength_46 : decode cX4_strength 46 = .ok (.if_icmp .eq 9, 3) := dk_159 0 9 (dk_at dksX4_strength_2 0 rfl rfl)
theorem dX4_strength_49 : decode cX4_strength 49 = .ok (.iload_n 0, 1) := dk_26 (dk_at dksX4_strength_2 3 rfl rfl)
theorem dX4_strength_50 : decode cX4_strength 50 = .ok (.bipush 9, 2) := dk_16 9 (dk_at dksX4_strength_2 4 rfl rfl)
theorem dX4_strength_52 : decode cX4_strength 52 = .ok (.if_icmp .ne 7, 3) := dk_160 0 7 (dk_at dksX4_strength_2 6 rfl rfl)
theorem dX4_strength_55 : decode cX4_strength 55 = .ok (.iconst 5, 1) := dk_8 (dk_at dksX4_strength_2 9 rfl rfl)
theorem dX4_strength_56 : decode cX4_strength 56 = .ok (.goto 5, 3) := dk_167 0 5 (dk_at dksX4_strength_2 10 rfl rfl)
theorem dX4_strength_59 : decode cX4_strength 59 = .ok (.bipush 6, 2) := dk_16 6 (dk_at dksX4_strength_2 13 rfl rfl)
theorem dX4_strength_61 : decode cX4_strength 61 = .ok (.ireturn, 1) := dk_172 (dk_at dksX4_strength_2 15 rfl rfl)
abbrev cX4_drops : ByteArray := prog_12_method_26_code
def yX4_drops : MethodName := ⟨RX4, "drops", "(I)V"⟩
def dkwX4_drops_2 : List UInt8 := [100, 181, 0, 189, 42, 42, 180, 0, 59, 42, 180, 0, 189, 46, 182, 0, 198, 167, 255, 191, 177]
abbrev dktX4_drops_2 : List UInt8 := dkwX4_drops_2 ++ []
def dkwX4_drops_1 : List UInt8 := [42, 180, 0, 59, 42, 180, 0, 189, 4, 100, 46, 184, 0, 195, 27, 161, 0, 29, 42, 89, 180, 0, 189, 4]
abbrev dktX4_drops_1 : List UInt8 := dkwX4_drops_1 ++ dktX4_drops_2
def dkwX4_drops_0 : List UInt8 := [42, 180, 0, 189, 158, 0, 64, 42, 180, 0, 59, 42, 180, 0, 189, 4, 100, 46, 184, 0, 192, 154, 0, 47]
abbrev dktX4_drops_0 : List UInt8 := dkwX4_drops_0 ++ dktX4_drops_1
theorem dksX4_drops_0 : cX4_drops.data.toList.drop 0 = dktX4_drops_0 := by decide +kernel
theorem dksX4_drops_1 : cX4_drops.data.toList.drop 24 = dktX4_drops_1 := dk_seg dksX4_drops_0 24 rfl rfl
theorem dksX4_drops_2 : cX4_drops.data.toList.drop 48 = dktX4_drops_2 := dk_seg dksX4_drops_1 24 rfl rfl
theorem dX4_drops_0 : decode cX4_drops 0 = .ok (.aload_n 0, 1) := dk_42 (dk_at dksX4_drops_0 0 rfl rfl)
theorem dX4_drops_1 : decode cX4_drops 1 = .ok (.getfield 189, 3) := dk_180 0 189 (dk_at dksX4_drops_0 1 rfl rfl)
theorem dX4_drops_4 : decode cX4_drops 4 = .ok (.ifCond .le 64, 3) := dk_158 0 64 (dk_at dksX4_drops_0 4 rfl rfl)
theorem dX4_drops_7 : decode cX4_drops 7 = .ok (.aload_n 0, 1) := dk_42 (dk_at dksX4_drops_0 7 rfl rfl)
theorem dX4_drops_8 : decode cX4_drops 8 = .ok (.getfield 59, 3) := dk_180 0 59 (dk_at dksX4_drops_0 8 rfl rfl)
theorem dX4_drops_11 : decode cX4_drops 11 = .ok (.aload_n 0, 1) := dk_42 (dk_at dksX4_drops_0 11 rfl rfl)
theorem dX4_drops_12 : decode cX4_drops 12 = .ok (.getfield 189, 3) := dk_180 0 189 (dk_at dksX4_drops_0 12 rfl rfl)
theorem dX4_drops_15 : decode cX4_drops 15 = .ok (.iconst 1, 1) := dk_4 (dk_at dksX4_drops_0 15 rfl rfl)
theorem dX4_drops_16 : decode cX4_drops 16 = .ok (.isub, 1) := dk_100 (dk_at dksX4_drops_0 16 rfl rfl)
theorem dX4_drops_17 : decode cX4_drops 17 = .ok (.iaload, 1) := dk_46 (dk_at dksX4_drops_0 17 rfl rfl)
theorem dX4_drops_18 : decode cX4_drops 18 = .ok (.invokestatic 192, 3) := dk_184 0 192 (dk_at dksX4_drops_0 18 rfl rfl)
theorem dX4_drops_21 : decode cX4_drops 21 = .ok (.ifCond .ne 47, 3) := dk_154 0 47 (dk_at dksX4_drops_0 21 rfl rfl)
theorem dX4_drops_24 : decode cX4_drops 24 = .ok (.aload_n 0, 1) := dk_42 (dk_at dksX4_drops_1 0 rfl rfl)
theorem dX4_drops_25 : decode cX4_drops 25 = .ok (.getfield 59, 3) := dk_180 0 59 (dk_at dksX4_drops_1 1 rfl rfl)
theorem dX4_drops_28 : decode cX4_drops 28 = .ok (.aload_n 0, 1) := dk_42 (dk_at dksX4_drops_1 4 rfl rfl)
theorem dX4_drops_29 : decode cX4_drops 29 = .ok (.getfield 189, 3) := dk_180 0 189 (dk_at dksX4_drops_1 5 rfl rfl)
theorem dX4_drops_32 : decode cX4_drops 32 = .ok (.iconst 1, 1) := dk_4 (dk_at dksX4_drops_1 8 rfl rfl)
theorem dX4_drops_33 : decode cX4_drops 33 = .ok (.isub, 1) := dk_100 (dk_at dksX4_drops_1 9 rfl rfl)
theorem dX4_drops_34 : decode cX4_drops 34 = .ok (.iaload, 1) := dk_46 (dk_at dksX4_drops_1 10 rfl rfl)
theorem dX4_drops_35 : decode cX4_drops 35 = .ok (.invokestatic 195, 3) := dk_184 0 195 (dk_at dksX4_drops_1 11 rfl rfl)
theorem dX4_drops_38 : decode cX4_drops 38 = .ok (.iload_n 1, 1) := dk_27 (dk_at dksX4_drops_1 14 rfl rfl)
theorem dX4_drops_39 : decode cX4_drops 39 = .ok (.if_icmp .lt 29, 3) := dk_161 0 29 (dk_at dksX4_drops_1 15 rfl rfl)
theorem dX4_drops_42 : decode cX4_drops 42 = .ok (.aload_n 0, 1) := dk_42 (dk_at dksX4_drops_1 18 rfl rfl)
theorem dX4_drops_43 : decode cX4_drops 43 = .ok (.dup, 1) := dk_89 (dk_at dksX4_drops_1 19 rfl rfl)
theorem dX4_drops_44 : decode cX4_drops 44 = .ok (.getfield 189, 3) := dk_180 0 189 (dk_at dksX4_drops_1 20 rfl rfl)
theorem dX4_drops_47 : decode cX4_drops 47 = .ok (.iconst 1, 1) := dk_4 (dk_at dksX4_drops_1 23 rfl rfl)
theorem dX4_drops_48 : decode cX4_drops 48 = .ok (.isub, 1) := dk_100 (dk_at dksX4_drops_2 0 rfl rfl)
theorem dX4_drops_49 : decode cX4_drops 49 = .ok (.putfield 189, 3) := dk_181 0 189 (dk_at dksX4_drops_2 1 rfl rfl)
theorem dX4_drops_52 : decode cX4_drops 52 = .ok (.aload_n 0, 1) := dk_42 (dk_at dksX4_drops_2 4 rfl rfl)
theorem dX4_drops_53 : decode cX4_drops 53 = .ok (.aload_n 0, 1) := dk_42 (dk_at dksX4_drops_2 5 rfl rfl)
theorem dX4_drops_54 : decode cX4_drops 54 = .ok (.getfield 59, 3) := dk_180 0 59 (dk_at dksX4_drops_2 6 rfl rfl)
theorem dX4_drops_57 : decode cX4_drops 57 = .ok (.aload_n 0, 1) := dk_42 (dk_at dksX4_drops_2 9 rfl rfl)
theorem dX4_drops_58 : decode cX4_drops 58 = .ok (.getfield 189, 3) := dk_180 0 189 (dk_at dksX4_drops_2 10 rfl rfl)
theorem dX4_drops_61 : decode cX4_drops 61 = .ok (.iaload, 1) := dk_46 (dk_at dksX4_drops_2 13 rfl rfl)
theorem dX4_drops_62 : decode cX4_drops 62 = .ok (.invokevirtual 198, 3) := dk_182 0 198 (dk_at dksX4_drops_2 14 rfl rfl)
theorem dX4_drops_65 : decode cX4_drops 65 = .ok (.goto (-65), 3) := dk_167 255 191 (dk_at dksX4_drops_2 17 rfl rfl)
theorem dX4_drops_68 : decode cX4_drops 68 = .ok (.return_, 1) := dk_177 (dk_at dksX4_drops_2 20 rfl rfl)
abbrev cX4_closes : ByteArray := prog_12_method_32_code
def yX4_closes : MethodName := ⟨RX4, "closes", "()V"⟩
def dkwX4_closes_1 : List UInt8 := [181, 0, 205, 42, 182, 0, 180, 177]
abbrev dktX4_closes_1 : List UInt8 := dkwX4_closes_1 ++ []
def dkwX4_closes_0 : List UInt8 := [42, 3, 182, 0, 220, 42, 89, 180, 0, 189, 4, 100, 181, 0, 189, 42, 89, 180, 0, 205, 4, 100]
abbrev dktX4_closes_0 : List UInt8 := dkwX4_closes_0 ++ dktX4_closes_1
theorem dksX4_closes_0 : cX4_closes.data.toList.drop 0 = dktX4_closes_0 := by decide +kernel
theorem dksX4_closes_1 : cX4_closes.data.toList.drop 22 = dktX4_closes_1 := dk_seg dksX4_closes_0 22 rfl rfl
theorem dX4_closes_0 : decode cX4_closes 0 = .ok (.aload_n 0, 1) := dk_42 (dk_at dksX4_closes_0 0 rfl rfl)
theorem dX4_closes_1 : decode cX4_closes 1 = .ok (.iconst 0, 1) := dk_3 (dk_at dksX4_closes_0 1 rfl rfl)
theorem dX4_closes_2 : decode cX4_closes 2 = .ok (.invokevirtual 220, 3) := dk_182 0 220 (dk_at dksX4_closes_0 2 rfl rfl)
theorem dX4_closes_5 : decode cX4_closes 5 = .ok (.aload_n 0, 1) := dk_42 (dk_at dksX4_closes_0 5 rfl rfl)
theorem dX4_closes_6 : decode cX4_closes 6 = .ok (.dup, 1) := dk_89 (dk_at dksX4_closes_0 6 rfl rfl)
theorem dX4_closes_7 : decode cX4_closes 7 = .ok (.getfield 189, 3) := dk_180 0 189 (dk_at dksX4_closes_0 7 rfl rfl)
theorem dX4_closes_10 : decode cX4_closes 10 = .ok (.iconst 1, 1) := dk_4 (dk_at dksX4_closes_0 10 rfl rfl)
theorem dX4_closes_11 : decode cX4_closes 11 = .ok (.isub, 1) := dk_100 (dk_at dksX4_closes_0 11 rfl rfl)
theorem dX4_closes_12 : decode cX4_closes 12 = .ok (.putfield 189, 3) := dk_181 0 189 (dk_at dksX4_closes_0 12 rfl rfl)
theorem dX4_closes_15 : decode cX4_closes 15 = .ok (.aload_n 0, 1) := dk_42 (dk_at dksX4_closes_0 15 rfl rfl)
theorem dX4_closes_16 : decode cX4_closes 16 = .ok (.dup, 1) := dk_89 (dk_at dksX4_closes_0 16 rfl rfl)
theorem dX4_closes_17 : decode cX4_closes 17 = .ok (.getfield 205, 3) := dk_180 0 205 (dk_at dksX4_closes_0 17 rfl rfl)
theorem dX4_closes_20 : decode cX4_closes 20 = .ok (.iconst 1, 1) := dk_4 (dk_at dksX4_closes_0 20 rfl rfl)
theorem dX4_closes_21 : decode cX4_closes 21 = .ok (.isub, 1) := dk_100 (dk_at dksX4_closes_0 21 rfl rfl)
theorem dX4_closes_22 : decode cX4_closes 22 = .ok (.putfield 205, 3) := dk_181 0 205 (dk_at dksX4_closes_1 0 rfl rfl)
theorem dX4_closes_25 : decode cX4_closes 25 = .ok (.aload_n 0, 1) := dk_42 (dk_at dksX4_closes_1 3 rfl rfl)
theorem dX4_closes_26 : decode cX4_closes 26 = .ok (.invokevirtual 180, 3) := dk_182 0 180 (dk_at dksX4_closes_1 4 rfl rfl)
theorem dX4_closes_29 : decode cX4_closes 29 = .ok (.return_, 1) := dk_177 (dk_at dksX4_closes_1 7 rfl rfl)
abbrev cX4_isSign : ByteArray := prog_12_method_20_code
def yX4_isSign : MethodName := ⟨RX4, "isSign", "(I)Z"⟩
def dkwX4_isSign_0 : List UInt8 := [42, 180, 0, 150, 6, 160, 0, 15, 42, 180, 0, 147, 27, 160, 0, 7, 4, 167, 0, 4, 3, 172]
abbrev dktX4_isSign_0 : List UInt8 := dkwX4_isSign_0 ++ []
theorem dksX4_isSign_0 : cX4_isSign.data.toList.drop 0 = dktX4_isSign_0 := by decide +kernel
theorem dX4_isSign_0 : decode cX4_isSign 0 = .ok (.aload_n 0, 1) := dk_42 (dk_at dksX4_isSign_0 0 rfl rfl)
theorem dX4_isSign_1 : decode cX4_isSign 1 = .ok (.getfield 150, 3) := dk_180 0 150 (dk_at dksX4_isSign_0 1 rfl rfl)
theorem dX4_isSign_4 : decode cX4_isSign 4 = .ok (.iconst 3, 1) := dk_6 (dk_at dksX4_isSign_0 4 rfl rfl)
theorem dX4_isSign_5 : decode cX4_isSign 5 = .ok (.if_icmp .ne 15, 3) := dk_160 0 15 (dk_at dksX4_isSign_0 5 rfl rfl)
theorem dX4_isSign_8 : decode cX4_isSign 8 = .ok (.aload_n 0, 1) := dk_42 (dk_at dksX4_isSign_0 8 rfl rfl)
theorem dX4_isSign_9 : decode cX4_isSign 9 = .ok (.getfield 147, 3) := dk_180 0 147 (dk_at dksX4_isSign_0 9 rfl rfl)
theorem dX4_isSign_12 : decode cX4_isSign 12 = .ok (.iload_n 1, 1) := dk_27 (dk_at dksX4_isSign_0 12 rfl rfl)
theorem dX4_isSign_13 : decode cX4_isSign 13 = .ok (.if_icmp .ne 7, 3) := dk_160 0 7 (dk_at dksX4_isSign_0 13 rfl rfl)
theorem dX4_isSign_16 : decode cX4_isSign 16 = .ok (.iconst 1, 1) := dk_4 (dk_at dksX4_isSign_0 16 rfl rfl)
theorem dX4_isSign_17 : decode cX4_isSign 17 = .ok (.goto 4, 3) := dk_167 0 4 (dk_at dksX4_isSign_0 17 rfl rfl)
theorem dX4_isSign_20 : decode cX4_isSign 20 = .ok (.iconst 0, 1) := dk_3 (dk_at dksX4_isSign_0 20 rfl rfl)
theorem dX4_isSign_21 : decode cX4_isSign 21 = .ok (.ireturn, 1) := dk_172 (dk_at dksX4_isSign_0 21 rfl rfl)
abbrev cX4_deeper : ByteArray := prog_12_method_29_code
def yX4_deeper : MethodName := ⟨RX4, "deeper", "()V"⟩
def dkwX4_deeper_2 : List UInt8 := [16, 40, 182, 0, 208, 153, 0, 7, 5, 167, 0, 4, 4, 182, 0, 183, 177]
abbrev dktX4_deeper_2 : List UInt8 := dkwX4_deeper_2 ++ []
def dkwX4_deeper_1 : List UInt8 := [180, 0, 205, 3, 84, 177, 42, 42, 180, 0, 150, 5, 159, 0, 20, 42, 180, 0, 150, 4, 159, 0, 12, 42]
abbrev dktX4_deeper_1 : List UInt8 := dkwX4_deeper_1 ++ dktX4_deeper_2
def dkwX4_deeper_0 : List UInt8 := [42, 180, 0, 205, 16, 6, 162, 0, 24, 42, 89, 180, 0, 205, 4, 96, 181, 0, 205, 42, 180, 0, 62, 42]
abbrev dktX4_deeper_0 : List UInt8 := dkwX4_deeper_0 ++ dktX4_deeper_1
theorem dksX4_deeper_0 : cX4_deeper.data.toList.drop 0 = dktX4_deeper_0 := by decide +kernel
theorem dksX4_deeper_1 : cX4_deeper.data.toList.drop 24 = dktX4_deeper_1 := dk_seg dksX4_deeper_0 24 rfl rfl
theorem dksX4_deeper_2 : cX4_deeper.data.toList.drop 48 = dktX4_deeper_2 := dk_seg dksX4_deeper_1 24 rfl rfl
theorem dX4_deeper_0 : decode cX4_deeper 0 = .ok (.aload_n 0, 1) := dk_42 (dk_at dksX4_deeper_0 0 rfl rfl)
theorem dX4_deeper_1 : decode cX4_deeper 1 = .ok (.getfield 205, 3) := dk_180 0 205 (dk_at dksX4_deeper_0 1 rfl rfl)
theorem dX4_deeper_4 : decode cX4_deeper 4 = .ok (.bipush 6, 2) := dk_16 6 (dk_at dksX4_deeper_0 4 rfl rfl)
theorem dX4_deeper_6 : decode cX4_deeper 6 = .ok (.if_icmp .ge 24, 3) := dk_162 0 24 (dk_at dksX4_deeper_0 6 rfl rfl)
theorem dX4_deeper_9 : decode cX4_deeper 9 = .ok (.aload_n 0, 1) := dk_42 (dk_at dksX4_deeper_0 9 rfl rfl)
theorem dX4_deeper_10 : decode cX4_deeper 10 = .ok (.dup, 1) := dk_89 (dk_at dksX4_deeper_0 10 rfl rfl)
theorem dX4_deeper_11 : decode cX4_deeper 11 = .ok (.getfield 205, 3) := dk_180 0 205 (dk_at dksX4_deeper_0 11 rfl rfl)
theorem dX4_deeper_14 : decode cX4_deeper 14 = .ok (.iconst 1, 1) := dk_4 (dk_at dksX4_deeper_0 14 rfl rfl)
theorem dX4_deeper_15 : decode cX4_deeper 15 = .ok (.iadd, 1) := dk_96 (dk_at dksX4_deeper_0 15 rfl rfl)
theorem dX4_deeper_16 : decode cX4_deeper 16 = .ok (.putfield 205, 3) := dk_181 0 205 (dk_at dksX4_deeper_0 16 rfl rfl)
theorem dX4_deeper_19 : decode cX4_deeper 19 = .ok (.aload_n 0, 1) := dk_42 (dk_at dksX4_deeper_0 19 rfl rfl)
theorem dX4_deeper_20 : decode cX4_deeper 20 = .ok (.getfield 62, 3) := dk_180 0 62 (dk_at dksX4_deeper_0 20 rfl rfl)
theorem dX4_deeper_23 : decode cX4_deeper 23 = .ok (.aload_n 0, 1) := dk_42 (dk_at dksX4_deeper_0 23 rfl rfl)
theorem dX4_deeper_24 : decode cX4_deeper 24 = .ok (.getfield 205, 3) := dk_180 0 205 (dk_at dksX4_deeper_1 0 rfl rfl)
theorem dX4_deeper_27 : decode cX4_deeper 27 = .ok (.iconst 0, 1) := dk_3 (dk_at dksX4_deeper_1 3 rfl rfl)
theorem dX4_deeper_28 : decode cX4_deeper 28 = .ok (.bastore, 1) := dk_84 (dk_at dksX4_deeper_1 4 rfl rfl)
theorem dX4_deeper_29 : decode cX4_deeper 29 = .ok (.return_, 1) := dk_177 (dk_at dksX4_deeper_1 5 rfl rfl)
theorem dX4_deeper_30 : decode cX4_deeper 30 = .ok (.aload_n 0, 1) := dk_42 (dk_at dksX4_deeper_1 6 rfl rfl)
theorem dX4_deeper_31 : decode cX4_deeper 31 = .ok (.aload_n 0, 1) := dk_42 (dk_at dksX4_deeper_1 7 rfl rfl)
theorem dX4_deeper_32 : decode cX4_deeper 32 = .ok (.getfield 150, 3) := dk_180 0 150 (dk_at dksX4_deeper_1 8 rfl rfl)
theorem dX4_deeper_35 : decode cX4_deeper 35 = .ok (.iconst 2, 1) := dk_5 (dk_at dksX4_deeper_1 11 rfl rfl)
theorem dX4_deeper_36 : decode cX4_deeper 36 = .ok (.if_icmp .eq 20, 3) := dk_159 0 20 (dk_at dksX4_deeper_1 12 rfl rfl)
theorem dX4_deeper_39 : decode cX4_deeper 39 = .ok (.aload_n 0, 1) := dk_42 (dk_at dksX4_deeper_1 15 rfl rfl)
theorem dX4_deeper_40 : decode cX4_deeper 40 = .ok (.getfield 150, 3) := dk_180 0 150 (dk_at dksX4_deeper_1 16 rfl rfl)
theorem dX4_deeper_43 : decode cX4_deeper 43 = .ok (.iconst 1, 1) := dk_4 (dk_at dksX4_deeper_1 19 rfl rfl)
theorem dX4_deeper_44 : decode cX4_deeper 44 = .ok (.if_icmp .eq 12, 3) := dk_159 0 12 (dk_at dksX4_deeper_1 20 rfl rfl)
theorem dX4_deeper_47 : decode cX4_deeper 47 = .ok (.aload_n 0, 1) := dk_42 (dk_at dksX4_deeper_1 23 rfl rfl)
theorem dX4_deeper_48 : decode cX4_deeper 48 = .ok (.bipush 40, 2) := dk_16 40 (dk_at dksX4_deeper_2 0 rfl rfl)
theorem dX4_deeper_50 : decode cX4_deeper 50 = .ok (.invokevirtual 208, 3) := dk_182 0 208 (dk_at dksX4_deeper_2 2 rfl rfl)
theorem dX4_deeper_53 : decode cX4_deeper 53 = .ok (.ifCond .eq 7, 3) := dk_153 0 7 (dk_at dksX4_deeper_2 5 rfl rfl)
theorem dX4_deeper_56 : decode cX4_deeper 56 = .ok (.iconst 2, 1) := dk_5 (dk_at dksX4_deeper_2 8 rfl rfl)
theorem dX4_deeper_57 : decode cX4_deeper 57 = .ok (.goto 4, 3) := dk_167 0 4 (dk_at dksX4_deeper_2 9 rfl rfl)
theorem dX4_deeper_60 : decode cX4_deeper 60 = .ok (.iconst 1, 1) := dk_4 (dk_at dksX4_deeper_2 12 rfl rfl)
theorem dX4_deeper_61 : decode cX4_deeper 61 = .ok (.invokevirtual 183, 3) := dk_182 0 183 (dk_at dksX4_deeper_2 13 rfl rfl)
theorem dX4_deeper_64 : decode cX4_deeper 64 = .ok (.return_, 1) := dk_177 (dk_at dksX4_deeper_2 16 rfl rfl)
abbrev cX4_isOpened : ByteArray := prog_12_method_31_code
def yX4_isOpened : MethodName := ⟨RX4, "isOpened", "()Z"⟩
def dkwX4_isOpened_1 : List UInt8 := [132, 1, 255, 167, 255, 237, 27, 155, 0, 7, 4, 167, 0, 4, 3, 172]
abbrev dktX4_isOpened_1 : List UInt8 := dkwX4_isOpened_1 ++ []
def dkwX4_isOpened_0 : List UInt8 := [42, 180, 0, 189, 4, 100, 60, 27, 155, 0, 21, 42, 180, 0, 59, 27, 46, 184, 0, 192, 154, 0, 9]
abbrev dktX4_isOpened_0 : List UInt8 := dkwX4_isOpened_0 ++ dktX4_isOpened_1
theorem dksX4_isOpened_0 : cX4_isOpened.data.toList.drop 0 = dktX4_isOpened_0 := by decide +kernel
theorem dksX4_isOpened_1 : cX4_isOpened.data.toList.drop 23 = dktX4_isOpened_1 := dk_seg dksX4_isOpened_0 23 rfl rfl
theorem dX4_isOpened_0 : decode cX4_isOpened 0 = .ok (.aload_n 0, 1) := dk_42 (dk_at dksX4_isOpened_0 0 rfl rfl)
theorem dX4_isOpened_1 : decode cX4_isOpened 1 = .ok (.getfield 189, 3) := dk_180 0 189 (dk_at dksX4_isOpened_0 1 rfl rfl)
theorem dX4_isOpened_4 : decode cX4_isOpened 4 = .ok (.iconst 1, 1) := dk_4 (dk_at dksX4_isOpened_0 4 rfl rfl)
theorem dX4_isOpened_5 : decode cX4_isOpened 5 = .ok (.isub, 1) := dk_100 (dk_at dksX4_isOpened_0 5 rfl rfl)
theorem dX4_isOpened_6 : decode cX4_isOpened 6 = .ok (.istore_n 1, 1) := dk_60 (dk_at dksX4_isOpened_0 6 rfl rfl)
theorem dX4_isOpened_7 : decode cX4_isOpened 7 = .ok (.iload_n 1, 1) := dk_27 (dk_at dksX4_isOpened_0 7 rfl rfl)
theorem dX4_isOpened_8 : decode cX4_isOpened 8 = .ok (.ifCond .lt 21, 3) := dk_155 0 21 (dk_at dksX4_isOpened_0 8 rfl rfl)
theorem dX4_isOpened_11 : decode cX4_isOpened 11 = .ok (.aload_n 0, 1) := dk_42 (dk_at dksX4_isOpened_0 11 rfl rfl)
theorem dX4_isOpened_12 : decode cX4_isOpened 12 = .ok (.getfield 59, 3) := dk_180 0 59 (dk_at dksX4_isOpened_0 12 rfl rfl)
theorem dX4_isOpened_15 : decode cX4_isOpened 15 = .ok (.iload_n 1, 1) := dk_27 (dk_at dksX4_isOpened_0 15 rfl rfl)
theorem dX4_isOpened_16 : decode cX4_isOpened 16 = .ok (.iaload, 1) := dk_46 (dk_at dksX4_isOpened_0 16 rfl rfl)
theorem dX4_isOpened_17 : decode cX4_isOpened 17 = .ok (.invokestatic 192, 3) := dk_184 0 192 (dk_at dksX4_isOpened_0 17 rfl rfl)
theorem dX4_isOpened_20 : decode cX4_isOpened 20 = .ok (.ifCond .ne 9, 3) := dk_154 0 9 (dk_at dksX4_isOpened_0 20 rfl rfl)
theorem dX4_isOpened_23 : decode cX4_isOpened 23 = .ok (.iinc 1 (-1), 3) := dk_132 1 255 (dk_at dksX4_isOpened_1 0 rfl rfl)
theorem dX4_isOpened_26 : decode cX4_isOpened 26 = .ok (.goto (-19), 3) := dk_167 255 237 (dk_at dksX4_isOpened_1 3 rfl rfl)
theorem dX4_isOpened_29 : decode cX4_isOpened 29 = .ok (.iload_n 1, 1) := dk_27 (dk_at dksX4_isOpened_1 6 rfl rfl)
theorem dX4_isOpened_30 : decode cX4_isOpened 30 = .ok (.ifCond .lt 7, 3) := dk_155 0 7 (dk_at dksX4_isOpened_1 7 rfl rfl)
theorem dX4_isOpened_33 : decode cX4_isOpened 33 = .ok (.iconst 1, 1) := dk_4 (dk_at dksX4_isOpened_1 10 rfl rfl)
theorem dX4_isOpened_34 : decode cX4_isOpened 34 = .ok (.goto 4, 3) := dk_167 0 4 (dk_at dksX4_isOpened_1 11 rfl rfl)
theorem dX4_isOpened_37 : decode cX4_isOpened 37 = .ok (.iconst 0, 1) := dk_3 (dk_at dksX4_isOpened_1 14 rfl rfl)
theorem dX4_isOpened_38 : decode cX4_isOpened 38 = .ok (.ireturn, 1) := dk_172 (dk_at dksX4_isOpened_1 15 rfl rfl)
abbrev cX4_spelled : ByteArray := prog_12_method_15_code
def yX4_spelled : MethodName := ⟨RX4, "spelled", "(IIIIIII)J"⟩
def dkwX4_spelled_4 : List UInt8 := [16, 96, 100, 133, 129, 55, 7, 22, 7, 173]
abbrev dktX4_spelled_4 : List UInt8 := dkwX4_spelled_4 ++ []
def dkwX4_spelled_3 : List UInt8 := [22, 7, 8, 121, 21, 5, 16, 96, 100, 133, 129, 55, 7, 21, 6, 153, 0, 16, 22, 7, 8, 121, 21, 6]
abbrev dktX4_spelled_3 : List UInt8 := dkwX4_spelled_3 ++ dktX4_spelled_4
def dkwX4_spelled_2 : List UInt8 := [21, 4, 153, 0, 16, 22, 7, 8, 121, 21, 4, 16, 96, 100, 133, 129, 55, 7, 21, 5, 153, 0, 16]
abbrev dktX4_spelled_2 : List UInt8 := dkwX4_spelled_2 ++ dktX4_spelled_3
def dkwX4_spelled_1 : List UInt8 := [28, 16, 96, 100, 133, 129, 55, 7, 29, 153, 0, 15, 22, 7, 8, 121, 29, 16, 96, 100, 133, 129, 55, 7]
abbrev dktX4_spelled_1 : List UInt8 := dkwX4_spelled_1 ++ dktX4_spelled_2
def dkwX4_spelled_0 : List UInt8 := [26, 133, 20, 0, 163, 101, 8, 121, 27, 16, 96, 100, 133, 129, 55, 7, 28, 153, 0, 15, 22, 7, 8, 121]
abbrev dktX4_spelled_0 : List UInt8 := dkwX4_spelled_0 ++ dktX4_spelled_1
theorem dksX4_spelled_0 : cX4_spelled.data.toList.drop 0 = dktX4_spelled_0 := by decide +kernel
theorem dksX4_spelled_1 : cX4_spelled.data.toList.drop 24 = dktX4_spelled_1 := dk_seg dksX4_spelled_0 24 rfl rfl
theorem dksX4_spelled_2 : cX4_spelled.data.toList.drop 48 = dktX4_spelled_2 := dk_seg dksX4_spelled_1 24 rfl rfl
theorem dksX4_spelled_3 : cX4_spelled.data.toList.drop 71 = dktX4_spelled_3 := dk_seg dksX4_spelled_2 23 rfl rfl
theorem dksX4_spelled_4 : cX4_spelled.data.toList.drop 95 = dktX4_spelled_4 := dk_seg dksX4_spelled_3 24 rfl rfl
theorem dX4_spelled_0 : decode cX4_spelled 0 = .ok (.iload_n 0, 1) := dk_26 (dk_at dksX4_spelled_0 0 rfl rfl)
theorem dX4_spelled_1 : decode cX4_spelled 1 = .ok (.i2l, 1) := dk_133 (dk_at dksX4_spelled_0 1 rfl rfl)
theorem dX4_spelled_2 : decode cX4_spelled 2 = .ok (.ldc2_w 163, 3) := dk_20 0 163 (dk_at dksX4_spelled_0 2 rfl rfl)
theorem dX4_spelled_5 : decode cX4_spelled 5 = .ok (.lsub, 1) := dk_101 (dk_at dksX4_spelled_0 5 rfl rfl)
theorem dX4_spelled_6 : decode cX4_spelled 6 = .ok (.iconst 5, 1) := dk_8 (dk_at dksX4_spelled_0 6 rfl rfl)
theorem dX4_spelled_7 : decode cX4_spelled 7 = .ok (.lshl, 1) := dk_121 (dk_at dksX4_spelled_0 7 rfl rfl)
theorem dX4_spelled_8 : decode cX4_spelled 8 = .ok (.iload_n 1, 1) := dk_27 (dk_at dksX4_spelled_0 8 rfl rfl)
theorem dX4_spelled_9 : decode cX4_spelled 9 = .ok (.bipush 96, 2) := dk_16 96 (dk_at dksX4_spelled_0 9 rfl rfl)
theorem dX4_spelled_11 : decode cX4_spelled 11 = .ok (.isub, 1) := dk_100 (dk_at dksX4_spelled_0 11 rfl rfl)
theorem dX4_spelled_12 : decode cX4_spelled 12 = .ok (.i2l, 1) := dk_133 (dk_at dksX4_spelled_0 12 rfl rfl)
theorem dX4_spelled_13 : decode cX4_spelled 13 = .ok (.lor, 1) := dk_129 (dk_at dksX4_spelled_0 13 rfl rfl)
theorem dX4_spelled_14 : decode cX4_spelled 14 = .ok (.lstore 7, 2) := dk_55 7 (dk_at dksX4_spelled_0 14 rfl rfl)
theorem dX4_spelled_16 : decode cX4_spelled 16 = .ok (.iload_n 2, 1) := dk_28 (dk_at dksX4_spelled_0 16 rfl rfl)
theorem dX4_spelled_17 : decode cX4_spelled 17 = .ok (.ifCond .eq 15, 3) := dk_153 0 15 (dk_at dksX4_spelled_0 17 rfl rfl)
theorem dX4_spelled_20 : decode cX4_spelled 20 = .ok (.lload 7, 2) := dk_22 7 (dk_at dksX4_spelled_0 20 rfl rfl)
theorem dX4_spelled_22 : decode cX4_spelled 22 = .ok (.iconst 5, 1) := dk_8 (dk_at dksX4_spelled_0 22 rfl rfl)
theorem dX4_spelled_23 : decode cX4_spelled 23 = .ok (.lshl, 1) := dk_121 (dk_at dksX4_spelled_0 23 rfl rfl)
theorem dX4_spelled_24 : decode cX4_spelled 24 = .ok (.iload_n 2, 1) := dk_28 (dk_at dksX4_spelled_1 0 rfl rfl)
theorem dX4_spelled_25 : decode cX4_spelled 25 = .ok (.bipush 96, 2) := dk_16 96 (dk_at dksX4_spelled_1 1 rfl rfl)
theorem dX4_spelled_27 : decode cX4_spelled 27 = .ok (.isub, 1) := dk_100 (dk_at dksX4_spelled_1 3 rfl rfl)
theorem dX4_spelled_28 : decode cX4_spelled 28 = .ok (.i2l, 1) := dk_133 (dk_at dksX4_spelled_1 4 rfl rfl)
theorem dX4_spelled_29 : decode cX4_spelled 29 = .ok (.lor, 1) := dk_129 (dk_at dksX4_spelled_1 5 rfl rfl)
theorem dX4_spelled_30 : decode cX4_spelled 30 = .ok (.lstore 7, 2) := dk_55 7 (dk_at dksX4_spelled_1 6 rfl rfl)
theorem dX4_spelled_32 : decode cX4_spelled 32 = .ok (.iload_n 3, 1) := dk_29 (dk_at dksX4_spelled_1 8 rfl rfl)
theorem dX4_spelled_33 : decode cX4_spelled 33 = .ok (.ifCond .eq 15, 3) := dk_153 0 15 (dk_at dksX4_spelled_1 9 rfl rfl)
theorem dX4_spelled_36 : decode cX4_spelled 36 = .ok (.lload 7, 2) := dk_22 7 (dk_at dksX4_spelled_1 12 rfl rfl)
theorem dX4_spelled_38 : decode cX4_spelled 38 = .ok (.iconst 5, 1) := dk_8 (dk_at dksX4_spelled_1 14 rfl rfl)
theorem dX4_spelled_39 : decode cX4_spelled 39 = .ok (.lshl, 1) := dk_121 (dk_at dksX4_spelled_1 15 rfl rfl)
theorem dX4_spelled_40 : decode cX4_spelled 40 = .ok (.iload_n 3, 1) := dk_29 (dk_at dksX4_spelled_1 16 rfl rfl)
theorem dX4_spelled_41 : decode cX4_spelled 41 = .ok (.bipush 96, 2) := dk_16 96 (dk_at dksX4_spelled_1 17 rfl rfl)
theorem dX4_spelled_43 : decode cX4_spelled 43 = .ok (.isub, 1) := dk_100 (dk_at dksX4_spelled_1 19 rfl rfl)
theorem dX4_spelled_44 : decode cX4_spelled 44 = .ok (.i2l, 1) := dk_133 (dk_at dksX4_spelled_1 20 rfl rfl)
theorem dX4_spelled_45 : decode cX4_spelled 45 = .ok (.lor, 1) := dk_129 (dk_at dksX4_spelled_1 21 rfl rfl)
theorem dX4_spelled_46 : decode cX4_spelled 46 = .ok (.lstore 7, 2) := dk_55 7 (dk_at dksX4_spelled_1 22 rfl rfl)
theorem dX4_spelled_48 : decode cX4_spelled 48 = .ok (.iload 4, 2) := dk_21 4 (dk_at dksX4_spelled_2 0 rfl rfl)
theorem dX4_spelled_50 : decode cX4_spelled 50 = .ok (.ifCond .eq 16, 3) := dk_153 0 16 (dk_at dksX4_spelled_2 2 rfl rfl)
theorem dX4_spelled_53 : decode cX4_spelled 53 = .ok (.lload 7, 2) := dk_22 7 (dk_at dksX4_spelled_2 5 rfl rfl)
theorem dX4_spelled_55 : decode cX4_spelled 55 = .ok (.iconst 5, 1) := dk_8 (dk_at dksX4_spelled_2 7 rfl rfl)
theorem dX4_spelled_56 : decode cX4_spelled 56 = .ok (.lshl, 1) := dk_121 (dk_at dksX4_spelled_2 8 rfl rfl)
theorem dX4_spelled_57 : decode cX4_spelled 57 = .ok (.iload 4, 2) := dk_21 4 (dk_at dksX4_spelled_2 9 rfl rfl)
theorem dX4_spelled_59 : decode cX4_spelled 59 = .ok (.bipush 96, 2) := dk_16 96 (dk_at dksX4_spelled_2 11 rfl rfl)
theorem dX4_spelled_61 : decode cX4_spelled 61 = .ok (.isub, 1) := dk_100 (dk_at dksX4_spelled_2 13 rfl rfl)
theorem dX4_spelled_62 : decode cX4_spelled 62 = .ok (.i2l, 1) := dk_133 (dk_at dksX4_spelled_2 14 rfl rfl)
theorem dX4_spelled_63 : decode cX4_spelled 63 = .ok (.lor, 1) := dk_129 (dk_at dksX4_spelled_2 15 rfl rfl)
theorem dX4_spelled_64 : decode cX4_spelled 64 = .ok (.lstore 7, 2) := dk_55 7 (dk_at dksX4_spelled_2 16 rfl rfl)
theorem dX4_spelled_66 : decode cX4_spelled 66 = .ok (.iload 5, 2) := dk_21 5 (dk_at dksX4_spelled_2 18 rfl rfl)
theorem dX4_spelled_68 : decode cX4_spelled 68 = .ok (.ifCond .eq 16, 3) := dk_153 0 16 (dk_at dksX4_spelled_2 20 rfl rfl)
theorem dX4_spelled_71 : decode cX4_spelled 71 = .ok (.lload 7, 2) := dk_22 7 (dk_at dksX4_spelled_3 0 rfl rfl)
theorem dX4_spelled_73 : decode cX4_spelled 73 = .ok (.iconst 5, 1) := dk_8 (dk_at dksX4_spelled_3 2 rfl rfl)
theorem dX4_spelled_74 : decode cX4_spelled 74 = .ok (.lshl, 1) := dk_121 (dk_at dksX4_spelled_3 3 rfl rfl)
theorem dX4_spelled_75 : decode cX4_spelled 75 = .ok (.iload 5, 2) := dk_21 5 (dk_at dksX4_spelled_3 4 rfl rfl)
theorem dX4_spelled_77 : decode cX4_spelled 77 = .ok (.bipush 96, 2) := dk_16 96 (dk_at dksX4_spelled_3 6 rfl rfl)
theorem dX4_spelled_79 : decode cX4_spelled 79 = .ok (.isub, 1) := dk_100 (dk_at dksX4_spelled_3 8 rfl rfl)
theorem dX4_spelled_80 : decode cX4_spelled 80 = .ok (.i2l, 1) := dk_133 (dk_at dksX4_spelled_3 9 rfl rfl)
theorem dX4_spelled_81 : decode cX4_spelled 81 = .ok (.lor, 1) := dk_129 (dk_at dksX4_spelled_3 10 rfl rfl)
theorem dX4_spelled_82 : decode cX4_spelled 82 = .ok (.lstore 7, 2) := dk_55 7 (dk_at dksX4_spelled_3 11 rfl rfl)
theorem dX4_spelled_84 : decode cX4_spelled 84 = .ok (.iload 6, 2) := dk_21 6 (dk_at dksX4_spelled_3 13 rfl rfl)
theorem dX4_spelled_86 : decode cX4_spelled 86 = .ok (.ifCond .eq 16, 3) := dk_153 0 16 (dk_at dksX4_spelled_3 15 rfl rfl)
theorem dX4_spelled_89 : decode cX4_spelled 89 = .ok (.lload 7, 2) := dk_22 7 (dk_at dksX4_spelled_3 18 rfl rfl)
theorem dX4_spelled_91 : decode cX4_spelled 91 = .ok (.iconst 5, 1) := dk_8 (dk_at dksX4_spelled_3 20 rfl rfl)
theorem dX4_spelled_92 : decode cX4_spelled 92 = .ok (.lshl, 1) := dk_121 (dk_at dksX4_spelled_3 21 rfl rfl)
theorem dX4_spelled_93 : decode cX4_spelled 93 = .ok (.iload 6, 2) := dk_21 6 (dk_at dksX4_spelled_3 22 rfl rfl)
theorem dX4_spelled_95 : decode cX4_spelled 95 = .ok (.bipush 96, 2) := dk_16 96 (dk_at dksX4_spelled_4 0 rfl rfl)
theorem dX4_spelled_97 : decode cX4_spelled 97 = .ok (.isub, 1) := dk_100 (dk_at dksX4_spelled_4 2 rfl rfl)
theorem dX4_spelled_98 : decode cX4_spelled 98 = .ok (.i2l, 1) := dk_133 (dk_at dksX4_spelled_4 3 rfl rfl)
theorem dX4_spelled_99 : decode cX4_spelled 99 = .ok (.lor, 1) := dk_129 (dk_at dksX4_spelled_4 4 rfl rfl)
theorem dX4_spelled_100 : decode cX4_spelled 100 = .ok (.lstore 7, 2) := dk_55 7 (dk_at dksX4_spelled_4 5 rfl rfl)
theorem dX4_spelled_102 : decode cX4_spelled 102 = .ok (.lload 7, 2) := dk_22 7 (dk_at dksX4_spelled_4 7 rfl rfl)
theorem dX4_spelled_104 : decode cX4_spelled 104 = .ok (.lreturn, 1) := dk_173 (dk_at dksX4_spelled_4 9 rfl rfl)
abbrev cX4_letters : ByteArray := prog_12_method_16_code
def yX4_letters : MethodName := ⟨RX4, "letters", "(I)J"⟩
def dkwX4_letters_11 : List UInt8 := [3, 3, 3, 3, 3, 184, 0, 165, 173, 16, 110, 16, 111, 16, 116, 3, 3, 3, 3, 184, 0, 165, 173]
abbrev dktX4_letters_11 : List UInt8 := dkwX4_letters_11 ++ []
def dkwX4_letters_10 : List UInt8 := [3, 3, 184, 0, 165, 173, 16, 97, 16, 110, 16, 100, 3, 3, 3, 3, 184, 0, 165, 173, 16, 111, 16, 114]
abbrev dktX4_letters_10 : List UInt8 := dkwX4_letters_10 ++ dktX4_letters_11
def dkwX4_letters_9 : List UInt8 := [16, 114, 16, 97, 16, 121, 16, 115, 3, 3, 184, 0, 165, 173, 16, 112, 16, 117, 16, 108, 16, 108, 16, 115]
abbrev dktX4_letters_9 : List UInt8 := dkwX4_letters_9 ++ dktX4_letters_10
def dkwX4_letters_8 : List UInt8 := [3, 3, 184, 0, 165, 173, 16, 119, 16, 101, 16, 101, 16, 107, 3, 3, 3, 184, 0, 165, 173, 16, 102]
abbrev dktX4_letters_8 : List UInt8 := dkwX4_letters_8 ++ dktX4_letters_9
def dkwX4_letters_7 : List UInt8 := [16, 111, 16, 109, 16, 97, 16, 110, 3, 3, 184, 0, 165, 173, 16, 107, 16, 110, 16, 111, 16, 116, 16, 115]
abbrev dktX4_letters_7 : List UInt8 := dkwX4_letters_7 ++ dktX4_letters_8
def dkwX4_letters_6 : List UInt8 := [184, 0, 165, 173, 16, 115, 16, 116, 16, 114, 16, 101, 16, 116, 16, 99, 16, 104, 184, 0, 165, 173, 16, 119]
abbrev dktX4_letters_6 : List UInt8 := dkwX4_letters_6 ++ dktX4_letters_7
def dkwX4_letters_5 : List UInt8 := [16, 111, 16, 109, 16, 101, 16, 110, 3, 3, 184, 0, 165, 173, 16, 100, 16, 97, 16, 121, 3, 3, 3, 3]
abbrev dktX4_letters_5 : List UInt8 := dkwX4_letters_5 ++ dktX4_letters_6
def dkwX4_letters_4 : List UInt8 := [184, 0, 165, 173, 16, 98, 16, 101, 16, 115, 16, 105, 16, 100, 16, 101, 3, 184, 0, 165, 173, 16, 119]
abbrev dktX4_letters_4 : List UInt8 := dkwX4_letters_4 ++ dktX4_letters_5
def dkwX4_letters_3 : List UInt8 := [16, 109, 3, 3, 3, 184, 0, 165, 173, 16, 115, 16, 116, 16, 105, 16, 116, 16, 99, 16, 104, 3]
abbrev dktX4_letters_3 : List UInt8 := dkwX4_letters_3 ++ dktX4_letters_4
def dkwX4_letters_2 : List UInt8 := [16, 115, 16, 116, 16, 114, 16, 97, 16, 105, 16, 110, 3, 184, 0, 165, 173, 16, 115, 16, 101, 16, 97]
abbrev dktX4_letters_2 : List UInt8 := dkwX4_letters_2 ++ dktX4_letters_3
def dkwX4_letters_1 : List UInt8 := [170, 0, 0, 0, 0, 1, 35, 0, 0, 0, 0, 0, 0, 0, 13, 0, 0, 0, 71, 0, 0, 0, 88, 0, 0, 0, 103, 0, 0, 0, 120, 0, 0, 0, 137, 0, 0, 0, 153, 0, 0, 0, 167, 0, 0, 0, 185, 0, 0, 0, 201, 0, 0, 0, 217, 0, 0, 0, 232, 0, 0, 0, 248, 0, 0, 1, 8, 0, 0, 1, 22]
abbrev dktX4_letters_1 : List UInt8 := dkwX4_letters_1 ++ dktX4_letters_2
def dkwX4_letters_0 : List UInt8 := [26]
abbrev dktX4_letters_0 : List UInt8 := dkwX4_letters_0 ++ dktX4_letters_1
theorem dksX4_letters_0 : cX4_letters.data.toList.drop 0 = dktX4_letters_0 := by decide +kernel
theorem dksX4_letters_1 : cX4_letters.data.toList.drop 1 = dktX4_letters_1 := dk_seg dksX4_letters_0 1 rfl rfl
theorem dksX4_letters_2 : cX4_letters.data.toList.drop 72 = dktX4_letters_2 := dk_seg dksX4_letters_1 71 rfl rfl
theorem dksX4_letters_3 : cX4_letters.data.toList.drop 95 = dktX4_letters_3 := dk_seg dksX4_letters_2 23 rfl rfl
theorem dksX4_letters_4 : cX4_letters.data.toList.drop 117 = dktX4_letters_4 := dk_seg dksX4_letters_3 22 rfl rfl
theorem dksX4_letters_5 : cX4_letters.data.toList.drop 140 = dktX4_letters_5 := dk_seg dksX4_letters_4 23 rfl rfl
theorem dksX4_letters_6 : cX4_letters.data.toList.drop 164 = dktX4_letters_6 := dk_seg dksX4_letters_5 24 rfl rfl
theorem dksX4_letters_7 : cX4_letters.data.toList.drop 188 = dktX4_letters_7 := dk_seg dksX4_letters_6 24 rfl rfl
theorem dksX4_letters_8 : cX4_letters.data.toList.drop 212 = dktX4_letters_8 := dk_seg dksX4_letters_7 24 rfl rfl
theorem dksX4_letters_9 : cX4_letters.data.toList.drop 235 = dktX4_letters_9 := dk_seg dksX4_letters_8 23 rfl rfl
theorem dksX4_letters_10 : cX4_letters.data.toList.drop 259 = dktX4_letters_10 := dk_seg dksX4_letters_9 24 rfl rfl
theorem dksX4_letters_11 : cX4_letters.data.toList.drop 283 = dktX4_letters_11 := dk_seg dksX4_letters_10 24 rfl rfl
theorem dX4_letters_0 : decode cX4_letters 0 = .ok (.iload_n 0, 1) := dk_26 (dk_at dksX4_letters_0 0 rfl rfl)
theorem dX4_letters_1 : decode cX4_letters 1 = .ok (.tableswitch 291 0 13 #[71, 88, 103, 120, 137, 153, 167, 185, 201, 217, 232, 248, 264, 278], 71) := by decide +kernel
theorem dX4_letters_72 : decode cX4_letters 72 = .ok (.bipush 115, 2) := dk_16 115 (dk_at dksX4_letters_2 0 rfl rfl)
theorem dX4_letters_74 : decode cX4_letters 74 = .ok (.bipush 116, 2) := dk_16 116 (dk_at dksX4_letters_2 2 rfl rfl)
theorem dX4_letters_76 : decode cX4_letters 76 = .ok (.bipush 114, 2) := dk_16 114 (dk_at dksX4_letters_2 4 rfl rfl)
theorem dX4_letters_78 : decode cX4_letters 78 = .ok (.bipush 97, 2) := dk_16 97 (dk_at dksX4_letters_2 6 rfl rfl)
theorem dX4_letters_80 : decode cX4_letters 80 = .ok (.bipush 105, 2) := dk_16 105 (dk_at dksX4_letters_2 8 rfl rfl)
theorem dX4_letters_82 : decode cX4_letters 82 = .ok (.bipush 110, 2) := dk_16 110 (dk_at dksX4_letters_2 10 rfl rfl)
theorem dX4_letters_84 : decode cX4_letters 84 = .ok (.iconst 0, 1) := dk_3 (dk_at dksX4_letters_2 12 rfl rfl)
theorem dX4_letters_85 : decode cX4_letters 85 = .ok (.invokestatic 165, 3) := dk_184 0 165 (dk_at dksX4_letters_2 13 rfl rfl)
theorem dX4_letters_88 : decode cX4_letters 88 = .ok (.lreturn, 1) := dk_173 (dk_at dksX4_letters_2 16 rfl rfl)
theorem dX4_letters_89 : decode cX4_letters 89 = .ok (.bipush 115, 2) := dk_16 115 (dk_at dksX4_letters_2 17 rfl rfl)
theorem dX4_letters_91 : decode cX4_letters 91 = .ok (.bipush 101, 2) := dk_16 101 (dk_at dksX4_letters_2 19 rfl rfl)
theorem dX4_letters_93 : decode cX4_letters 93 = .ok (.bipush 97, 2) := dk_16 97 (dk_at dksX4_letters_2 21 rfl rfl)
theorem dX4_letters_95 : decode cX4_letters 95 = .ok (.bipush 109, 2) := dk_16 109 (dk_at dksX4_letters_3 0 rfl rfl)
theorem dX4_letters_97 : decode cX4_letters 97 = .ok (.iconst 0, 1) := dk_3 (dk_at dksX4_letters_3 2 rfl rfl)
theorem dX4_letters_98 : decode cX4_letters 98 = .ok (.iconst 0, 1) := dk_3 (dk_at dksX4_letters_3 3 rfl rfl)
theorem dX4_letters_99 : decode cX4_letters 99 = .ok (.iconst 0, 1) := dk_3 (dk_at dksX4_letters_3 4 rfl rfl)
theorem dX4_letters_100 : decode cX4_letters 100 = .ok (.invokestatic 165, 3) := dk_184 0 165 (dk_at dksX4_letters_3 5 rfl rfl)
theorem dX4_letters_103 : decode cX4_letters 103 = .ok (.lreturn, 1) := dk_173 (dk_at dksX4_letters_3 8 rfl rfl)
theorem dX4_letters_104 : decode cX4_letters 104 = .ok (.bipush 115, 2) := dk_16 115 (dk_at dksX4_letters_3 9 rfl rfl)
theorem dX4_letters_106 : decode cX4_letters 106 = .ok (.bipush 116, 2) := dk_16 116 (dk_at dksX4_letters_3 11 rfl rfl)
theorem dX4_letters_108 : decode cX4_letters 108 = .ok (.bipush 105, 2) := dk_16 105 (dk_at dksX4_letters_3 13 rfl rfl)
theorem dX4_letters_110 : decode cX4_letters 110 = .ok (.bipush 116, 2) := dk_16 116 (dk_at dksX4_letters_3 15 rfl rfl)
theorem dX4_letters_112 : decode cX4_letters 112 = .ok (.bipush 99, 2) := dk_16 99 (dk_at dksX4_letters_3 17 rfl rfl)
theorem dX4_letters_114 : decode cX4_letters 114 = .ok (.bipush 104, 2) := dk_16 104 (dk_at dksX4_letters_3 19 rfl rfl)
theorem dX4_letters_116 : decode cX4_letters 116 = .ok (.iconst 0, 1) := dk_3 (dk_at dksX4_letters_3 21 rfl rfl)
theorem dX4_letters_117 : decode cX4_letters 117 = .ok (.invokestatic 165, 3) := dk_184 0 165 (dk_at dksX4_letters_4 0 rfl rfl)
theorem dX4_letters_120 : decode cX4_letters 120 = .ok (.lreturn, 1) := dk_173 (dk_at dksX4_letters_4 3 rfl rfl)
theorem dX4_letters_121 : decode cX4_letters 121 = .ok (.bipush 98, 2) := dk_16 98 (dk_at dksX4_letters_4 4 rfl rfl)
theorem dX4_letters_123 : decode cX4_letters 123 = .ok (.bipush 101, 2) := dk_16 101 (dk_at dksX4_letters_4 6 rfl rfl)
theorem dX4_letters_125 : decode cX4_letters 125 = .ok (.bipush 115, 2) := dk_16 115 (dk_at dksX4_letters_4 8 rfl rfl)
theorem dX4_letters_127 : decode cX4_letters 127 = .ok (.bipush 105, 2) := dk_16 105 (dk_at dksX4_letters_4 10 rfl rfl)
theorem dX4_letters_129 : decode cX4_letters 129 = .ok (.bipush 100, 2) := dk_16 100 (dk_at dksX4_letters_4 12 rfl rfl)
theorem dX4_letters_131 : decode cX4_letters 131 = .ok (.bipush 101, 2) := dk_16 101 (dk_at dksX4_letters_4 14 rfl rfl)
theorem dX4_letters_133 : decode cX4_letters 133 = .ok (.iconst 0, 1) := dk_3 (dk_at dksX4_letters_4 16 rfl rfl)
theorem dX4_letters_134 : decode cX4_letters 134 = .ok (.invokestatic 165, 3) := dk_184 0 165 (dk_at dksX4_letters_4 17 rfl rfl)
theorem dX4_letters_137 : decode cX4_letters 137 = .ok (.lreturn, 1) := dk_173 (dk_at dksX4_letters_4 20 rfl rfl)
theorem dX4_letters_138 : decode cX4_letters 138 = .ok (.bipush 119, 2) := dk_16 119 (dk_at dksX4_letters_4 21 rfl rfl)
theorem dX4_letters_140 : decode cX4_letters 140 = .ok (.bipush 111, 2) := dk_16 111 (dk_at dksX4_letters_5 0 rfl rfl)
theorem dX4_letters_142 : decode cX4_letters 142 = .ok (.bipush 109, 2) := dk_16 109 (dk_at dksX4_letters_5 2 rfl rfl)
theorem dX4_letters_144 : decode cX4_letters 144 = .ok (.bipush 101, 2) := dk_16 101 (dk_at dksX4_letters_5 4 rfl rfl)
theorem dX4_letters_146 : decode cX4_letters 146 = .ok (.bipush 110, 2) := dk_16 110 (dk_at dksX4_letters_5 6 rfl rfl)
theorem dX4_letters_148 : decode cX4_letters 148 = .ok (.iconst 0, 1) := dk_3 (dk_at dksX4_letters_5 8 rfl rfl)
theorem dX4_letters_149 : decode cX4_letters 149 = .ok (.iconst 0, 1) := dk_3 (dk_at dksX4_letters_5 9 rfl rfl)
theorem dX4_letters_150 : decode cX4_letters 150 = .ok (.invokestatic 165, 3) := dk_184 0 165 (dk_at dksX4_letters_5 10 rfl rfl)
theorem dX4_letters_153 : decode cX4_letters 153 = .ok (.lreturn, 1) := dk_173 (dk_at dksX4_letters_5 13 rfl rfl)
theorem dX4_letters_154 : decode cX4_letters 154 = .ok (.bipush 100, 2) := dk_16 100 (dk_at dksX4_letters_5 14 rfl rfl)
theorem dX4_letters_156 : decode cX4_letters 156 = .ok (.bipush 97, 2) := dk_16 97 (dk_at dksX4_letters_5 16 rfl rfl)
theorem dX4_letters_158 : decode cX4_letters 158 = .ok (.bipush 121, 2) := dk_16 121 (dk_at dksX4_letters_5 18 rfl rfl)
theorem dX4_letters_160 : decode cX4_letters 160 = .ok (.iconst 0, 1) := dk_3 (dk_at dksX4_letters_5 20 rfl rfl)
theorem dX4_letters_161 : decode cX4_letters 161 = .ok (.iconst 0, 1) := dk_3 (dk_at dksX4_letters_5 21 rfl rfl)
theorem dX4_letters_162 : decode cX4_letters 162 = .ok (.iconst 0, 1) := dk_3 (dk_at dksX4_letters_5 22 rfl rfl)
theorem dX4_letters_163 : decode cX4_letters 163 = .ok (.iconst 0, 1) := dk_3 (dk_at dksX4_letters_5 23 rfl rfl)
theorem dX4_letters_164 : decode cX4_letters 164 = .ok (.invokestatic 165, 3) := dk_184 0 165 (dk_at dksX4_letters_6 0 rfl rfl)
theorem dX4_letters_167 : decode cX4_letters 167 = .ok (.lreturn, 1) := dk_173 (dk_at dksX4_letters_6 3 rfl rfl)
theorem dX4_letters_168 : decode cX4_letters 168 = .ok (.bipush 115, 2) := dk_16 115 (dk_at dksX4_letters_6 4 rfl rfl)
theorem dX4_letters_170 : decode cX4_letters 170 = .ok (.bipush 116, 2) := dk_16 116 (dk_at dksX4_letters_6 6 rfl rfl)
theorem dX4_letters_172 : decode cX4_letters 172 = .ok (.bipush 114, 2) := dk_16 114 (dk_at dksX4_letters_6 8 rfl rfl)
theorem dX4_letters_174 : decode cX4_letters 174 = .ok (.bipush 101, 2) := dk_16 101 (dk_at dksX4_letters_6 10 rfl rfl)
theorem dX4_letters_176 : decode cX4_letters 176 = .ok (.bipush 116, 2) := dk_16 116 (dk_at dksX4_letters_6 12 rfl rfl)
theorem dX4_letters_178 : decode cX4_letters 178 = .ok (.bipush 99, 2) := dk_16 99 (dk_at dksX4_letters_6 14 rfl rfl)
theorem dX4_letters_180 : decode cX4_letters 180 = .ok (.bipush 104, 2) := dk_16 104 (dk_at dksX4_letters_6 16 rfl rfl)
theorem dX4_letters_182 : decode cX4_letters 182 = .ok (.invokestatic 165, 3) := dk_184 0 165 (dk_at dksX4_letters_6 18 rfl rfl)
theorem dX4_letters_185 : decode cX4_letters 185 = .ok (.lreturn, 1) := dk_173 (dk_at dksX4_letters_6 21 rfl rfl)
theorem dX4_letters_186 : decode cX4_letters 186 = .ok (.bipush 119, 2) := dk_16 119 (dk_at dksX4_letters_6 22 rfl rfl)
theorem dX4_letters_188 : decode cX4_letters 188 = .ok (.bipush 111, 2) := dk_16 111 (dk_at dksX4_letters_7 0 rfl rfl)
theorem dX4_letters_190 : decode cX4_letters 190 = .ok (.bipush 109, 2) := dk_16 109 (dk_at dksX4_letters_7 2 rfl rfl)
theorem dX4_letters_192 : decode cX4_letters 192 = .ok (.bipush 97, 2) := dk_16 97 (dk_at dksX4_letters_7 4 rfl rfl)
theorem dX4_letters_194 : decode cX4_letters 194 = .ok (.bipush 110, 2) := dk_16 110 (dk_at dksX4_letters_7 6 rfl rfl)
theorem dX4_letters_196 : decode cX4_letters 196 = .ok (.iconst 0, 1) := dk_3 (dk_at dksX4_letters_7 8 rfl rfl)
theorem dX4_letters_197 : decode cX4_letters 197 = .ok (.iconst 0, 1) := dk_3 (dk_at dksX4_letters_7 9 rfl rfl)
theorem dX4_letters_198 : decode cX4_letters 198 = .ok (.invokestatic 165, 3) := dk_184 0 165 (dk_at dksX4_letters_7 10 rfl rfl)
theorem dX4_letters_201 : decode cX4_letters 201 = .ok (.lreturn, 1) := dk_173 (dk_at dksX4_letters_7 13 rfl rfl)
theorem dX4_letters_202 : decode cX4_letters 202 = .ok (.bipush 107, 2) := dk_16 107 (dk_at dksX4_letters_7 14 rfl rfl)
theorem dX4_letters_204 : decode cX4_letters 204 = .ok (.bipush 110, 2) := dk_16 110 (dk_at dksX4_letters_7 16 rfl rfl)
theorem dX4_letters_206 : decode cX4_letters 206 = .ok (.bipush 111, 2) := dk_16 111 (dk_at dksX4_letters_7 18 rfl rfl)
theorem dX4_letters_208 : decode cX4_letters 208 = .ok (.bipush 116, 2) := dk_16 116 (dk_at dksX4_letters_7 20 rfl rfl)
theorem dX4_letters_210 : decode cX4_letters 210 = .ok (.bipush 115, 2) := dk_16 115 (dk_at dksX4_letters_7 22 rfl rfl)
theorem dX4_letters_212 : decode cX4_letters 212 = .ok (.iconst 0, 1) := dk_3 (dk_at dksX4_letters_8 0 rfl rfl)
theorem dX4_letters_213 : decode cX4_letters 213 = .ok (.iconst 0, 1) := dk_3 (dk_at dksX4_letters_8 1 rfl rfl)
theorem dX4_letters_214 : decode cX4_letters 214 = .ok (.invokestatic 165, 3) := dk_184 0 165 (dk_at dksX4_letters_8 2 rfl rfl)
theorem dX4_letters_217 : decode cX4_letters 217 = .ok (.lreturn, 1) := dk_173 (dk_at dksX4_letters_8 5 rfl rfl)
theorem dX4_letters_218 : decode cX4_letters 218 = .ok (.bipush 119, 2) := dk_16 119 (dk_at dksX4_letters_8 6 rfl rfl)
theorem dX4_letters_220 : decode cX4_letters 220 = .ok (.bipush 101, 2) := dk_16 101 (dk_at dksX4_letters_8 8 rfl rfl)
theorem dX4_letters_222 : decode cX4_letters 222 = .ok (.bipush 101, 2) := dk_16 101 (dk_at dksX4_letters_8 10 rfl rfl)
theorem dX4_letters_224 : decode cX4_letters 224 = .ok (.bipush 107, 2) := dk_16 107 (dk_at dksX4_letters_8 12 rfl rfl)
theorem dX4_letters_226 : decode cX4_letters 226 = .ok (.iconst 0, 1) := dk_3 (dk_at dksX4_letters_8 14 rfl rfl)
theorem dX4_letters_227 : decode cX4_letters 227 = .ok (.iconst 0, 1) := dk_3 (dk_at dksX4_letters_8 15 rfl rfl)
theorem dX4_letters_228 : decode cX4_letters 228 = .ok (.iconst 0, 1) := dk_3 (dk_at dksX4_letters_8 16 rfl rfl)
theorem dX4_letters_229 : decode cX4_letters 229 = .ok (.invokestatic 165, 3) := dk_184 0 165 (dk_at dksX4_letters_8 17 rfl rfl)
theorem dX4_letters_232 : decode cX4_letters 232 = .ok (.lreturn, 1) := dk_173 (dk_at dksX4_letters_8 20 rfl rfl)
theorem dX4_letters_233 : decode cX4_letters 233 = .ok (.bipush 102, 2) := dk_16 102 (dk_at dksX4_letters_8 21 rfl rfl)
theorem dX4_letters_235 : decode cX4_letters 235 = .ok (.bipush 114, 2) := dk_16 114 (dk_at dksX4_letters_9 0 rfl rfl)
theorem dX4_letters_237 : decode cX4_letters 237 = .ok (.bipush 97, 2) := dk_16 97 (dk_at dksX4_letters_9 2 rfl rfl)
theorem dX4_letters_239 : decode cX4_letters 239 = .ok (.bipush 121, 2) := dk_16 121 (dk_at dksX4_letters_9 4 rfl rfl)
theorem dX4_letters_241 : decode cX4_letters 241 = .ok (.bipush 115, 2) := dk_16 115 (dk_at dksX4_letters_9 6 rfl rfl)
theorem dX4_letters_243 : decode cX4_letters 243 = .ok (.iconst 0, 1) := dk_3 (dk_at dksX4_letters_9 8 rfl rfl)
theorem dX4_letters_244 : decode cX4_letters 244 = .ok (.iconst 0, 1) := dk_3 (dk_at dksX4_letters_9 9 rfl rfl)
theorem dX4_letters_245 : decode cX4_letters 245 = .ok (.invokestatic 165, 3) := dk_184 0 165 (dk_at dksX4_letters_9 10 rfl rfl)
theorem dX4_letters_248 : decode cX4_letters 248 = .ok (.lreturn, 1) := dk_173 (dk_at dksX4_letters_9 13 rfl rfl)
theorem dX4_letters_249 : decode cX4_letters 249 = .ok (.bipush 112, 2) := dk_16 112 (dk_at dksX4_letters_9 14 rfl rfl)
theorem dX4_letters_251 : decode cX4_letters 251 = .ok (.bipush 117, 2) := dk_16 117 (dk_at dksX4_letters_9 16 rfl rfl)
theorem dX4_letters_253 : decode cX4_letters 253 = .ok (.bipush 108, 2) := dk_16 108 (dk_at dksX4_letters_9 18 rfl rfl)
theorem dX4_letters_255 : decode cX4_letters 255 = .ok (.bipush 108, 2) := dk_16 108 (dk_at dksX4_letters_9 20 rfl rfl)
theorem dX4_letters_257 : decode cX4_letters 257 = .ok (.bipush 115, 2) := dk_16 115 (dk_at dksX4_letters_9 22 rfl rfl)
theorem dX4_letters_259 : decode cX4_letters 259 = .ok (.iconst 0, 1) := dk_3 (dk_at dksX4_letters_10 0 rfl rfl)
theorem dX4_letters_260 : decode cX4_letters 260 = .ok (.iconst 0, 1) := dk_3 (dk_at dksX4_letters_10 1 rfl rfl)
theorem dX4_letters_261 : decode cX4_letters 261 = .ok (.invokestatic 165, 3) := dk_184 0 165 (dk_at dksX4_letters_10 2 rfl rfl)
theorem dX4_letters_264 : decode cX4_letters 264 = .ok (.lreturn, 1) := dk_173 (dk_at dksX4_letters_10 5 rfl rfl)
theorem dX4_letters_265 : decode cX4_letters 265 = .ok (.bipush 97, 2) := dk_16 97 (dk_at dksX4_letters_10 6 rfl rfl)
theorem dX4_letters_267 : decode cX4_letters 267 = .ok (.bipush 110, 2) := dk_16 110 (dk_at dksX4_letters_10 8 rfl rfl)
theorem dX4_letters_269 : decode cX4_letters 269 = .ok (.bipush 100, 2) := dk_16 100 (dk_at dksX4_letters_10 10 rfl rfl)
theorem dX4_letters_271 : decode cX4_letters 271 = .ok (.iconst 0, 1) := dk_3 (dk_at dksX4_letters_10 12 rfl rfl)
theorem dX4_letters_272 : decode cX4_letters 272 = .ok (.iconst 0, 1) := dk_3 (dk_at dksX4_letters_10 13 rfl rfl)
theorem dX4_letters_273 : decode cX4_letters 273 = .ok (.iconst 0, 1) := dk_3 (dk_at dksX4_letters_10 14 rfl rfl)
theorem dX4_letters_274 : decode cX4_letters 274 = .ok (.iconst 0, 1) := dk_3 (dk_at dksX4_letters_10 15 rfl rfl)
theorem dX4_letters_275 : decode cX4_letters 275 = .ok (.invokestatic 165, 3) := dk_184 0 165 (dk_at dksX4_letters_10 16 rfl rfl)
theorem dX4_letters_278 : decode cX4_letters 278 = .ok (.lreturn, 1) := dk_173 (dk_at dksX4_letters_10 19 rfl rfl)
theorem dX4_letters_279 : decode cX4_letters 279 = .ok (.bipush 111, 2) := dk_16 111 (dk_at dksX4_letters_10 20 rfl rfl)
theorem dX4_letters_281 : decode cX4_letters 281 = .ok (.bipush 114, 2) := dk_16 114 (dk_at dksX4_letters_10 22 rfl rfl)
theorem dX4_letters_283 : decode cX4_letters 283 = .ok (.iconst 0, 1) := dk_3 (dk_at dksX4_letters_11 0 rfl rfl)
theorem dX4_letters_284 : decode cX4_letters 284 = .ok (.iconst 0, 1) := dk_3 (dk_at dksX4_letters_11 1 rfl rfl)
theorem dX4_letters_285 : decode cX4_letters 285 = .ok (.iconst 0, 1) := dk_3 (dk_at dksX4_letters_11 2 rfl rfl)
theorem dX4_letters_286 : decode cX4_letters 286 = .ok (.iconst 0, 1) := dk_3 (dk_at dksX4_letters_11 3 rfl rfl)
theorem dX4_letters_287 : decode cX4_letters 287 = .ok (.iconst 0, 1) := dk_3 (dk_at dksX4_letters_11 4 rfl rfl)
theorem dX4_letters_288 : decode cX4_letters 288 = .ok (.invokestatic 165, 3) := dk_184 0 165 (dk_at dksX4_letters_11 5 rfl rfl)
theorem dX4_letters_291 : decode cX4_letters 291 = .ok (.lreturn, 1) := dk_173 (dk_at dksX4_letters_11 8 rfl rfl)
theorem dX4_letters_292 : decode cX4_letters 292 = .ok (.bipush 110, 2) := dk_16 110 (dk_at dksX4_letters_11 9 rfl rfl)
theorem dX4_letters_294 : decode cX4_letters 294 = .ok (.bipush 111, 2) := dk_16 111 (dk_at dksX4_letters_11 11 rfl rfl)
theorem dX4_letters_296 : decode cX4_letters 296 = .ok (.bipush 116, 2) := dk_16 116 (dk_at dksX4_letters_11 13 rfl rfl)
theorem dX4_letters_298 : decode cX4_letters 298 = .ok (.iconst 0, 1) := dk_3 (dk_at dksX4_letters_11 15 rfl rfl)
theorem dX4_letters_299 : decode cX4_letters 299 = .ok (.iconst 0, 1) := dk_3 (dk_at dksX4_letters_11 16 rfl rfl)
theorem dX4_letters_300 : decode cX4_letters 300 = .ok (.iconst 0, 1) := dk_3 (dk_at dksX4_letters_11 17 rfl rfl)
theorem dX4_letters_301 : decode cX4_letters 301 = .ok (.iconst 0, 1) := dk_3 (dk_at dksX4_letters_11 18 rfl rfl)
theorem dX4_letters_302 : decode cX4_letters 302 = .ok (.invokestatic 165, 3) := dk_184 0 165 (dk_at dksX4_letters_11 19 rfl rfl)
theorem dX4_letters_305 : decode cX4_letters 305 = .ok (.lreturn, 1) := dk_173 (dk_at dksX4_letters_11 22 rfl rfl)
abbrev cX4_knownWord : ByteArray := prog_12_method_17_code
def yX4_knownWord : MethodName := ⟨RX4, "knownWord", "()I"⟩
def dkwX4_knownWord_2 : List UInt8 := [172]
abbrev dktX4_knownWord_2 : List UInt8 := dkwX4_knownWord_2 ++ []
def dkwX4_knownWord_1 : List UInt8 := [162, 0, 23, 27, 184, 0, 169, 42, 180, 0, 140, 148, 154, 0, 5, 27, 172, 132, 1, 1, 167, 255, 233, 2]
abbrev dktX4_knownWord_1 : List UInt8 := dkwX4_knownWord_1 ++ dktX4_knownWord_2
def dkwX4_knownWord_0 : List UInt8 := [42, 180, 0, 150, 4, 160, 0, 12, 42, 180, 0, 160, 16, 7, 164, 0, 5, 2, 172, 3, 60, 27, 16, 15]
abbrev dktX4_knownWord_0 : List UInt8 := dkwX4_knownWord_0 ++ dktX4_knownWord_1
theorem dksX4_knownWord_0 : cX4_knownWord.data.toList.drop 0 = dktX4_knownWord_0 := by decide +kernel
theorem dksX4_knownWord_1 : cX4_knownWord.data.toList.drop 24 = dktX4_knownWord_1 := dk_seg dksX4_knownWord_0 24 rfl rfl
theorem dksX4_knownWord_2 : cX4_knownWord.data.toList.drop 48 = dktX4_knownWord_2 := dk_seg dksX4_knownWord_1 24 rfl rfl
theorem dX4_knownWord_0 : decode cX4_knownWord 0 = .ok (.aload_n 0, 1) := dk_42 (dk_at dksX4_knownWord_0 0 rfl rfl)
theorem dX4_knownWord_1 : decode cX4_knownWord 1 = .ok (.getfield 150, 3) := dk_180 0 150 (dk_at dksX4_knownWord_0 1 rfl rfl)
theorem dX4_knownWord_4 : decode cX4_knownWord 4 = .ok (.iconst 1, 1) := dk_4 (dk_at dksX4_knownWord_0 4 rfl rfl)
theorem dX4_knownWord_5 : decode cX4_knownWord 5 = .ok (.if_icmp .ne 12, 3) := dk_160 0 12 (dk_at dksX4_knownWord_0 5 rfl rfl)
theorem dX4_knownWord_8 : decode cX4_knownWord 8 = .ok (.aload_n 0, 1) := dk_42 (dk_at dksX4_knownWord_0 8 rfl rfl)
theorem dX4_knownWord_9 : decode cX4_knownWord 9 = .ok (.getfield 160, 3) := dk_180 0 160 (dk_at dksX4_knownWord_0 9 rfl rfl)
theorem dX4_knownWord_12 : decode cX4_knownWord 12 = .ok (.bipush 7, 2) := dk_16 7 (dk_at dksX4_knownWord_0 12 rfl rfl)
theorem dX4_knownWord_14 : decode cX4_knownWord 14 = .ok (.if_icmp .le 5, 3) := dk_164 0 5 (dk_at dksX4_knownWord_0 14 rfl rfl)
theorem dX4_knownWord_17 : decode cX4_knownWord 17 = .ok (.iconst (-1), 1) := dk_2 (dk_at dksX4_knownWord_0 17 rfl rfl)
theorem dX4_knownWord_18 : decode cX4_knownWord 18 = .ok (.ireturn, 1) := dk_172 (dk_at dksX4_knownWord_0 18 rfl rfl)
theorem dX4_knownWord_19 : decode cX4_knownWord 19 = .ok (.iconst 0, 1) := dk_3 (dk_at dksX4_knownWord_0 19 rfl rfl)
theorem dX4_knownWord_20 : decode cX4_knownWord 20 = .ok (.istore_n 1, 1) := dk_60 (dk_at dksX4_knownWord_0 20 rfl rfl)
theorem dX4_knownWord_21 : decode cX4_knownWord 21 = .ok (.iload_n 1, 1) := dk_27 (dk_at dksX4_knownWord_0 21 rfl rfl)
theorem dX4_knownWord_22 : decode cX4_knownWord 22 = .ok (.bipush 15, 2) := dk_16 15 (dk_at dksX4_knownWord_0 22 rfl rfl)
theorem dX4_knownWord_24 : decode cX4_knownWord 24 = .ok (.if_icmp .ge 23, 3) := dk_162 0 23 (dk_at dksX4_knownWord_1 0 rfl rfl)
theorem dX4_knownWord_27 : decode cX4_knownWord 27 = .ok (.iload_n 1, 1) := dk_27 (dk_at dksX4_knownWord_1 3 rfl rfl)
theorem dX4_knownWord_28 : decode cX4_knownWord 28 = .ok (.invokestatic 169, 3) := dk_184 0 169 (dk_at dksX4_knownWord_1 4 rfl rfl)
theorem dX4_knownWord_31 : decode cX4_knownWord 31 = .ok (.aload_n 0, 1) := dk_42 (dk_at dksX4_knownWord_1 7 rfl rfl)
theorem dX4_knownWord_32 : decode cX4_knownWord 32 = .ok (.getfield 140, 3) := dk_180 0 140 (dk_at dksX4_knownWord_1 8 rfl rfl)
theorem dX4_knownWord_35 : decode cX4_knownWord 35 = .ok (.lcmp, 1) := dk_148 (dk_at dksX4_knownWord_1 11 rfl rfl)
theorem dX4_knownWord_36 : decode cX4_knownWord 36 = .ok (.ifCond .ne 5, 3) := dk_154 0 5 (dk_at dksX4_knownWord_1 12 rfl rfl)
theorem dX4_knownWord_39 : decode cX4_knownWord 39 = .ok (.iload_n 1, 1) := dk_27 (dk_at dksX4_knownWord_1 15 rfl rfl)
theorem dX4_knownWord_40 : decode cX4_knownWord 40 = .ok (.ireturn, 1) := dk_172 (dk_at dksX4_knownWord_1 16 rfl rfl)
theorem dX4_knownWord_41 : decode cX4_knownWord 41 = .ok (.iinc 1 1, 3) := dk_132 1 1 (dk_at dksX4_knownWord_1 17 rfl rfl)
theorem dX4_knownWord_44 : decode cX4_knownWord 44 = .ok (.goto (-23), 3) := dk_167 255 233 (dk_at dksX4_knownWord_1 20 rfl rfl)
theorem dX4_knownWord_47 : decode cX4_knownWord 47 = .ok (.iconst (-1), 1) := dk_2 (dk_at dksX4_knownWord_1 23 rfl rfl)
theorem dX4_knownWord_48 : decode cX4_knownWord 48 = .ok (.ireturn, 1) := dk_172 (dk_at dksX4_knownWord_2 0 rfl rfl)
abbrev cX4_part : ByteArray := prog_12_method_28_code
def yX4_part : MethodName := ⟨RX4, "part", "()V"⟩
def dkwX4_part_4 : List UInt8 := [182, 0, 176, 153, 0, 7, 42, 182, 0, 180, 177]
abbrev dktX4_part_4 : List UInt8 := dkwX4_part_4 ++ []
def dkwX4_part_3 : List UInt8 := [182, 0, 183, 42, 5, 182, 0, 198, 42, 27, 182, 0, 198, 167, 0, 8, 42, 4, 182, 0, 183, 42]
abbrev dktX4_part_3 : List UInt8 := dkwX4_part_3 ++ dktX4_part_4
def dkwX4_part_2 : List UInt8 := [180, 0, 150, 4, 160, 0, 35, 42, 182, 0, 201, 60, 27, 155, 0, 8, 27, 8, 164, 0, 8, 42, 6]
abbrev dktX4_part_2 : List UInt8 := dkwX4_part_2 ++ dktX4_part_3
def dkwX4_part_1 : List UInt8 := [42, 5, 182, 0, 183, 42, 4, 182, 0, 198, 42, 42, 180, 0, 144, 182, 0, 198, 167, 0, 48, 42]
abbrev dktX4_part_1 : List UInt8 := dkwX4_part_1 ++ dktX4_part_2
def dkwX4_part_0 : List UInt8 := [42, 182, 0, 176, 154, 0, 4, 177, 42, 180, 0, 150, 5, 160, 0, 32, 42, 180, 0, 160, 7, 164, 0, 8]
abbrev dktX4_part_0 : List UInt8 := dkwX4_part_0 ++ dktX4_part_1
theorem dksX4_part_0 : cX4_part.data.toList.drop 0 = dktX4_part_0 := by decide +kernel
theorem dksX4_part_1 : cX4_part.data.toList.drop 24 = dktX4_part_1 := dk_seg dksX4_part_0 24 rfl rfl
theorem dksX4_part_2 : cX4_part.data.toList.drop 46 = dktX4_part_2 := dk_seg dksX4_part_1 22 rfl rfl
theorem dksX4_part_3 : cX4_part.data.toList.drop 69 = dktX4_part_3 := dk_seg dksX4_part_2 23 rfl rfl
theorem dksX4_part_4 : cX4_part.data.toList.drop 91 = dktX4_part_4 := dk_seg dksX4_part_3 22 rfl rfl
theorem dX4_part_0 : decode cX4_part 0 = .ok (.aload_n 0, 1) := dk_42 (dk_at dksX4_part_0 0 rfl rfl)
theorem dX4_part_1 : decode cX4_part 1 = .ok (.invokevirtual 176, 3) := dk_182 0 176 (dk_at dksX4_part_0 1 rfl rfl)
theorem dX4_part_4 : decode cX4_part 4 = .ok (.ifCond .ne 4, 3) := dk_154 0 4 (dk_at dksX4_part_0 4 rfl rfl)
theorem dX4_part_7 : decode cX4_part 7 = .ok (.return_, 1) := dk_177 (dk_at dksX4_part_0 7 rfl rfl)
theorem dX4_part_8 : decode cX4_part 8 = .ok (.aload_n 0, 1) := dk_42 (dk_at dksX4_part_0 8 rfl rfl)
theorem dX4_part_9 : decode cX4_part 9 = .ok (.getfield 150, 3) := dk_180 0 150 (dk_at dksX4_part_0 9 rfl rfl)
theorem dX4_part_12 : decode cX4_part 12 = .ok (.iconst 2, 1) := dk_5 (dk_at dksX4_part_0 12 rfl rfl)
theorem dX4_part_13 : decode cX4_part 13 = .ok (.if_icmp .ne 32, 3) := dk_160 0 32 (dk_at dksX4_part_0 13 rfl rfl)
theorem dX4_part_16 : decode cX4_part 16 = .ok (.aload_n 0, 1) := dk_42 (dk_at dksX4_part_0 16 rfl rfl)
theorem dX4_part_17 : decode cX4_part 17 = .ok (.getfield 160, 3) := dk_180 0 160 (dk_at dksX4_part_0 17 rfl rfl)
theorem dX4_part_20 : decode cX4_part 20 = .ok (.iconst 4, 1) := dk_7 (dk_at dksX4_part_0 20 rfl rfl)
theorem dX4_part_21 : decode cX4_part 21 = .ok (.if_icmp .le 8, 3) := dk_164 0 8 (dk_at dksX4_part_0 21 rfl rfl)
theorem dX4_part_24 : decode cX4_part 24 = .ok (.aload_n 0, 1) := dk_42 (dk_at dksX4_part_1 0 rfl rfl)
theorem dX4_part_25 : decode cX4_part 25 = .ok (.iconst 2, 1) := dk_5 (dk_at dksX4_part_1 1 rfl rfl)
theorem dX4_part_26 : decode cX4_part 26 = .ok (.invokevirtual 183, 3) := dk_182 0 183 (dk_at dksX4_part_1 2 rfl rfl)
theorem dX4_part_29 : decode cX4_part 29 = .ok (.aload_n 0, 1) := dk_42 (dk_at dksX4_part_1 5 rfl rfl)
theorem dX4_part_30 : decode cX4_part 30 = .ok (.iconst 1, 1) := dk_4 (dk_at dksX4_part_1 6 rfl rfl)
theorem dX4_part_31 : decode cX4_part 31 = .ok (.invokevirtual 198, 3) := dk_182 0 198 (dk_at dksX4_part_1 7 rfl rfl)
theorem dX4_part_34 : decode cX4_part 34 = .ok (.aload_n 0, 1) := dk_42 (dk_at dksX4_part_1 10 rfl rfl)
theorem dX4_part_35 : decode cX4_part 35 = .ok (.aload_n 0, 1) := dk_42 (dk_at dksX4_part_1 11 rfl rfl)
theorem dX4_part_36 : decode cX4_part 36 = .ok (.getfield 144, 3) := dk_180 0 144 (dk_at dksX4_part_1 12 rfl rfl)
theorem dX4_part_39 : decode cX4_part 39 = .ok (.invokevirtual 198, 3) := dk_182 0 198 (dk_at dksX4_part_1 15 rfl rfl)
theorem dX4_part_42 : decode cX4_part 42 = .ok (.goto 48, 3) := dk_167 0 48 (dk_at dksX4_part_1 18 rfl rfl)
theorem dX4_part_45 : decode cX4_part 45 = .ok (.aload_n 0, 1) := dk_42 (dk_at dksX4_part_1 21 rfl rfl)
theorem dX4_part_46 : decode cX4_part 46 = .ok (.getfield 150, 3) := dk_180 0 150 (dk_at dksX4_part_2 0 rfl rfl)
theorem dX4_part_49 : decode cX4_part 49 = .ok (.iconst 1, 1) := dk_4 (dk_at dksX4_part_2 3 rfl rfl)
theorem dX4_part_50 : decode cX4_part 50 = .ok (.if_icmp .ne 35, 3) := dk_160 0 35 (dk_at dksX4_part_2 4 rfl rfl)
theorem dX4_part_53 : decode cX4_part 53 = .ok (.aload_n 0, 1) := dk_42 (dk_at dksX4_part_2 7 rfl rfl)
theorem dX4_part_54 : decode cX4_part 54 = .ok (.invokevirtual 201, 3) := dk_182 0 201 (dk_at dksX4_part_2 8 rfl rfl)
theorem dX4_part_57 : decode cX4_part 57 = .ok (.istore_n 1, 1) := dk_60 (dk_at dksX4_part_2 11 rfl rfl)
theorem dX4_part_58 : decode cX4_part 58 = .ok (.iload_n 1, 1) := dk_27 (dk_at dksX4_part_2 12 rfl rfl)
theorem dX4_part_59 : decode cX4_part 59 = .ok (.ifCond .lt 8, 3) := dk_155 0 8 (dk_at dksX4_part_2 13 rfl rfl)
theorem dX4_part_62 : decode cX4_part 62 = .ok (.iload_n 1, 1) := dk_27 (dk_at dksX4_part_2 16 rfl rfl)
theorem dX4_part_63 : decode cX4_part 63 = .ok (.iconst 5, 1) := dk_8 (dk_at dksX4_part_2 17 rfl rfl)
theorem dX4_part_64 : decode cX4_part 64 = .ok (.if_icmp .le 8, 3) := dk_164 0 8 (dk_at dksX4_part_2 18 rfl rfl)
theorem dX4_part_67 : decode cX4_part 67 = .ok (.aload_n 0, 1) := dk_42 (dk_at dksX4_part_2 21 rfl rfl)
theorem dX4_part_68 : decode cX4_part 68 = .ok (.iconst 3, 1) := dk_6 (dk_at dksX4_part_2 22 rfl rfl)
theorem dX4_part_69 : decode cX4_part 69 = .ok (.invokevirtual 183, 3) := dk_182 0 183 (dk_at dksX4_part_3 0 rfl rfl)
theorem dX4_part_72 : decode cX4_part 72 = .ok (.aload_n 0, 1) := dk_42 (dk_at dksX4_part_3 3 rfl rfl)
theorem dX4_part_73 : decode cX4_part 73 = .ok (.iconst 2, 1) := dk_5 (dk_at dksX4_part_3 4 rfl rfl)
theorem dX4_part_74 : decode cX4_part 74 = .ok (.invokevirtual 198, 3) := dk_182 0 198 (dk_at dksX4_part_3 5 rfl rfl)
theorem dX4_part_77 : decode cX4_part 77 = .ok (.aload_n 0, 1) := dk_42 (dk_at dksX4_part_3 8 rfl rfl)
theorem dX4_part_78 : decode cX4_part 78 = .ok (.iload_n 1, 1) := dk_27 (dk_at dksX4_part_3 9 rfl rfl)
theorem dX4_part_79 : decode cX4_part 79 = .ok (.invokevirtual 198, 3) := dk_182 0 198 (dk_at dksX4_part_3 10 rfl rfl)
theorem dX4_part_82 : decode cX4_part 82 = .ok (.goto 8, 3) := dk_167 0 8 (dk_at dksX4_part_3 13 rfl rfl)
theorem dX4_part_85 : decode cX4_part 85 = .ok (.aload_n 0, 1) := dk_42 (dk_at dksX4_part_3 16 rfl rfl)
theorem dX4_part_86 : decode cX4_part 86 = .ok (.iconst 1, 1) := dk_4 (dk_at dksX4_part_3 17 rfl rfl)
theorem dX4_part_87 : decode cX4_part 87 = .ok (.invokevirtual 183, 3) := dk_182 0 183 (dk_at dksX4_part_3 18 rfl rfl)
theorem dX4_part_90 : decode cX4_part 90 = .ok (.aload_n 0, 1) := dk_42 (dk_at dksX4_part_3 21 rfl rfl)
theorem dX4_part_91 : decode cX4_part 91 = .ok (.invokevirtual 176, 3) := dk_182 0 176 (dk_at dksX4_part_4 0 rfl rfl)
theorem dX4_part_94 : decode cX4_part 94 = .ok (.ifCond .eq 7, 3) := dk_153 0 7 (dk_at dksX4_part_4 3 rfl rfl)
theorem dX4_part_97 : decode cX4_part 97 = .ok (.aload_n 0, 1) := dk_42 (dk_at dksX4_part_4 6 rfl rfl)
theorem dX4_part_98 : decode cX4_part 98 = .ok (.invokevirtual 180, 3) := dk_182 0 180 (dk_at dksX4_part_4 7 rfl rfl)
theorem dX4_part_101 : decode cX4_part 101 = .ok (.return_, 1) := dk_177 (dk_at dksX4_part_4 10 rfl rfl)
abbrev cX4_waitsFor : ByteArray := prog_12_method_27_code
def yX4_waitsFor : MethodName := ⟨RX4, "waitsFor", "(I)V"⟩
def dkwX4_waitsFor_0 : List UInt8 := [42, 180, 0, 59, 42, 180, 0, 189, 27, 79, 42, 89, 180, 0, 189, 4, 96, 181, 0, 189, 177]
abbrev dktX4_waitsFor_0 : List UInt8 := dkwX4_waitsFor_0 ++ []
theorem dksX4_waitsFor_0 : cX4_waitsFor.data.toList.drop 0 = dktX4_waitsFor_0 := by decide +kernel
theorem dX4_waitsFor_0 : decode cX4_waitsFor 0 = .ok (.aload_n 0, 1) := dk_42 (dk_at dksX4_waitsFor_0 0 rfl rfl)
theorem dX4_waitsFor_1 : decode cX4_waitsFor 1 = .ok (.getfield 59, 3) := dk_180 0 59 (dk_at dksX4_waitsFor_0 1 rfl rfl)
theorem dX4_waitsFor_4 : decode cX4_waitsFor 4 = .ok (.aload_n 0, 1) := dk_42 (dk_at dksX4_waitsFor_0 4 rfl rfl)
theorem dX4_waitsFor_5 : decode cX4_waitsFor 5 = .ok (.getfield 189, 3) := dk_180 0 189 (dk_at dksX4_waitsFor_0 5 rfl rfl)
theorem dX4_waitsFor_8 : decode cX4_waitsFor 8 = .ok (.iload_n 1, 1) := dk_27 (dk_at dksX4_waitsFor_0 8 rfl rfl)
theorem dX4_waitsFor_9 : decode cX4_waitsFor 9 = .ok (.iastore, 1) := dk_79 (dk_at dksX4_waitsFor_0 9 rfl rfl)
theorem dX4_waitsFor_10 : decode cX4_waitsFor 10 = .ok (.aload_n 0, 1) := dk_42 (dk_at dksX4_waitsFor_0 10 rfl rfl)
theorem dX4_waitsFor_11 : decode cX4_waitsFor 11 = .ok (.dup, 1) := dk_89 (dk_at dksX4_waitsFor_0 11 rfl rfl)
theorem dX4_waitsFor_12 : decode cX4_waitsFor 12 = .ok (.getfield 189, 3) := dk_180 0 189 (dk_at dksX4_waitsFor_0 12 rfl rfl)
theorem dX4_waitsFor_15 : decode cX4_waitsFor 15 = .ok (.iconst 1, 1) := dk_4 (dk_at dksX4_waitsFor_0 15 rfl rfl)
theorem dX4_waitsFor_16 : decode cX4_waitsFor 16 = .ok (.iadd, 1) := dk_96 (dk_at dksX4_waitsFor_0 16 rfl rfl)
theorem dX4_waitsFor_17 : decode cX4_waitsFor 17 = .ok (.putfield 189, 3) := dk_181 0 189 (dk_at dksX4_waitsFor_0 17 rfl rfl)
theorem dX4_waitsFor_20 : decode cX4_waitsFor 20 = .ok (.return_, 1) := dk_177 (dk_at dksX4_waitsFor_0 20 rfl rfl)
abbrev cX4_operand : ByteArray := prog_12_method_30_code
def yX4_operand : MethodName := ⟨RX4, "operand", "(Z)V"⟩
def dkwX4_operand_5 : List UInt8 := [61, 167, 255, 143, 42, 182, 0, 217, 177]
abbrev dktX4_operand_5 : List UInt8 := dkwX4_operand_5 ++ []
def dkwX4_operand_4 : List UInt8 := [167, 0, 4, 3, 62, 29, 153, 0, 19, 42, 16, 14, 182, 0, 211, 42, 182, 0, 180, 42, 182, 0, 214, 4]
abbrev dktX4_operand_4 : List UInt8 := dkwX4_operand_4 ++ dktX4_operand_5
def dkwX4_operand_3 : List UInt8 := [182, 0, 180, 167, 255, 202, 42, 182, 0, 176, 153, 0, 16, 42, 16, 40, 182, 0, 208, 153, 0, 7, 4]
abbrev dktX4_operand_3 : List UInt8 := dkwX4_operand_3 ++ dktX4_operand_4
def dkwX4_operand_2 : List UInt8 := [5, 182, 0, 183, 132, 4, 1, 42, 182, 0, 176, 154, 0, 6, 167, 255, 214, 42, 6, 182, 0, 211, 42]
abbrev dktX4_operand_2 : List UInt8 := dkwX4_operand_2 ++ dktX4_operand_3
def dkwX4_operand_1 : List UInt8 := [153, 0, 53, 28, 153, 0, 49, 42, 182, 0, 201, 16, 14, 160, 0, 40, 21, 4, 16, 6, 160, 0, 8, 42]
abbrev dktX4_operand_1 : List UInt8 := dkwX4_operand_1 ++ dktX4_operand_2
def dkwX4_operand_0 : List UInt8 := [27, 61, 4, 62, 29, 153, 0, 115, 42, 182, 0, 176, 153, 0, 108, 3, 54, 4, 42, 182, 0, 176]
abbrev dktX4_operand_0 : List UInt8 := dkwX4_operand_0 ++ dktX4_operand_1
theorem dksX4_operand_0 : cX4_operand.data.toList.drop 0 = dktX4_operand_0 := by decide +kernel
theorem dksX4_operand_1 : cX4_operand.data.toList.drop 22 = dktX4_operand_1 := dk_seg dksX4_operand_0 22 rfl rfl
theorem dksX4_operand_2 : cX4_operand.data.toList.drop 46 = dktX4_operand_2 := dk_seg dksX4_operand_1 24 rfl rfl
theorem dksX4_operand_3 : cX4_operand.data.toList.drop 69 = dktX4_operand_3 := dk_seg dksX4_operand_2 23 rfl rfl
theorem dksX4_operand_4 : cX4_operand.data.toList.drop 92 = dktX4_operand_4 := dk_seg dksX4_operand_3 23 rfl rfl
theorem dksX4_operand_5 : cX4_operand.data.toList.drop 116 = dktX4_operand_5 := dk_seg dksX4_operand_4 24 rfl rfl
theorem dX4_operand_0 : decode cX4_operand 0 = .ok (.iload_n 1, 1) := dk_27 (dk_at dksX4_operand_0 0 rfl rfl)
theorem dX4_operand_1 : decode cX4_operand 1 = .ok (.istore_n 2, 1) := dk_61 (dk_at dksX4_operand_0 1 rfl rfl)
theorem dX4_operand_2 : decode cX4_operand 2 = .ok (.iconst 1, 1) := dk_4 (dk_at dksX4_operand_0 2 rfl rfl)
theorem dX4_operand_3 : decode cX4_operand 3 = .ok (.istore_n 3, 1) := dk_62 (dk_at dksX4_operand_0 3 rfl rfl)
theorem dX4_operand_4 : decode cX4_operand 4 = .ok (.iload_n 3, 1) := dk_29 (dk_at dksX4_operand_0 4 rfl rfl)
theorem dX4_operand_5 : decode cX4_operand 5 = .ok (.ifCond .eq 115, 3) := dk_153 0 115 (dk_at dksX4_operand_0 5 rfl rfl)
theorem dX4_operand_8 : decode cX4_operand 8 = .ok (.aload_n 0, 1) := dk_42 (dk_at dksX4_operand_0 8 rfl rfl)
theorem dX4_operand_9 : decode cX4_operand 9 = .ok (.invokevirtual 176, 3) := dk_182 0 176 (dk_at dksX4_operand_0 9 rfl rfl)
theorem dX4_operand_12 : decode cX4_operand 12 = .ok (.ifCond .eq 108, 3) := dk_153 0 108 (dk_at dksX4_operand_0 12 rfl rfl)
theorem dX4_operand_15 : decode cX4_operand 15 = .ok (.iconst 0, 1) := dk_3 (dk_at dksX4_operand_0 15 rfl rfl)
theorem dX4_operand_16 : decode cX4_operand 16 = .ok (.istore 4, 2) := dk_54 4 (dk_at dksX4_operand_0 16 rfl rfl)
theorem dX4_operand_18 : decode cX4_operand 18 = .ok (.aload_n 0, 1) := dk_42 (dk_at dksX4_operand_0 18 rfl rfl)
theorem dX4_operand_19 : decode cX4_operand 19 = .ok (.invokevirtual 176, 3) := dk_182 0 176 (dk_at dksX4_operand_0 19 rfl rfl)
theorem dX4_operand_22 : decode cX4_operand 22 = .ok (.ifCond .eq 53, 3) := dk_153 0 53 (dk_at dksX4_operand_1 0 rfl rfl)
theorem dX4_operand_25 : decode cX4_operand 25 = .ok (.iload_n 2, 1) := dk_28 (dk_at dksX4_operand_1 3 rfl rfl)
theorem dX4_operand_26 : decode cX4_operand 26 = .ok (.ifCond .eq 49, 3) := dk_153 0 49 (dk_at dksX4_operand_1 4 rfl rfl)
theorem dX4_operand_29 : decode cX4_operand 29 = .ok (.aload_n 0, 1) := dk_42 (dk_at dksX4_operand_1 7 rfl rfl)
theorem dX4_operand_30 : decode cX4_operand 30 = .ok (.invokevirtual 201, 3) := dk_182 0 201 (dk_at dksX4_operand_1 8 rfl rfl)
theorem dX4_operand_33 : decode cX4_operand 33 = .ok (.bipush 14, 2) := dk_16 14 (dk_at dksX4_operand_1 11 rfl rfl)
theorem dX4_operand_35 : decode cX4_operand 35 = .ok (.if_icmp .ne 40, 3) := dk_160 0 40 (dk_at dksX4_operand_1 13 rfl rfl)
theorem dX4_operand_38 : decode cX4_operand 38 = .ok (.iload 4, 2) := dk_21 4 (dk_at dksX4_operand_1 16 rfl rfl)
theorem dX4_operand_40 : decode cX4_operand 40 = .ok (.bipush 6, 2) := dk_16 6 (dk_at dksX4_operand_1 18 rfl rfl)
theorem dX4_operand_42 : decode cX4_operand 42 = .ok (.if_icmp .ne 8, 3) := dk_160 0 8 (dk_at dksX4_operand_1 20 rfl rfl)
theorem dX4_operand_45 : decode cX4_operand 45 = .ok (.aload_n 0, 1) := dk_42 (dk_at dksX4_operand_1 23 rfl rfl)
theorem dX4_operand_46 : decode cX4_operand 46 = .ok (.iconst 2, 1) := dk_5 (dk_at dksX4_operand_2 0 rfl rfl)
theorem dX4_operand_47 : decode cX4_operand 47 = .ok (.invokevirtual 183, 3) := dk_182 0 183 (dk_at dksX4_operand_2 1 rfl rfl)
theorem dX4_operand_50 : decode cX4_operand 50 = .ok (.iinc 4 1, 3) := dk_132 4 1 (dk_at dksX4_operand_2 4 rfl rfl)
theorem dX4_operand_53 : decode cX4_operand 53 = .ok (.aload_n 0, 1) := dk_42 (dk_at dksX4_operand_2 7 rfl rfl)
theorem dX4_operand_54 : decode cX4_operand 54 = .ok (.invokevirtual 176, 3) := dk_182 0 176 (dk_at dksX4_operand_2 8 rfl rfl)
theorem dX4_operand_57 : decode cX4_operand 57 = .ok (.ifCond .ne 6, 3) := dk_154 0 6 (dk_at dksX4_operand_2 11 rfl rfl)
theorem dX4_operand_60 : decode cX4_operand 60 = .ok (.goto (-42), 3) := dk_167 255 214 (dk_at dksX4_operand_2 14 rfl rfl)
theorem dX4_operand_63 : decode cX4_operand 63 = .ok (.aload_n 0, 1) := dk_42 (dk_at dksX4_operand_2 17 rfl rfl)
theorem dX4_operand_64 : decode cX4_operand 64 = .ok (.iconst 3, 1) := dk_6 (dk_at dksX4_operand_2 18 rfl rfl)
theorem dX4_operand_65 : decode cX4_operand 65 = .ok (.invokevirtual 211, 3) := dk_182 0 211 (dk_at dksX4_operand_2 19 rfl rfl)
theorem dX4_operand_68 : decode cX4_operand 68 = .ok (.aload_n 0, 1) := dk_42 (dk_at dksX4_operand_2 22 rfl rfl)
theorem dX4_operand_69 : decode cX4_operand 69 = .ok (.invokevirtual 180, 3) := dk_182 0 180 (dk_at dksX4_operand_3 0 rfl rfl)
theorem dX4_operand_72 : decode cX4_operand 72 = .ok (.goto (-54), 3) := dk_167 255 202 (dk_at dksX4_operand_3 3 rfl rfl)
theorem dX4_operand_75 : decode cX4_operand 75 = .ok (.aload_n 0, 1) := dk_42 (dk_at dksX4_operand_3 6 rfl rfl)
theorem dX4_operand_76 : decode cX4_operand 76 = .ok (.invokevirtual 176, 3) := dk_182 0 176 (dk_at dksX4_operand_3 7 rfl rfl)
theorem dX4_operand_79 : decode cX4_operand 79 = .ok (.ifCond .eq 16, 3) := dk_153 0 16 (dk_at dksX4_operand_3 10 rfl rfl)
theorem dX4_operand_82 : decode cX4_operand 82 = .ok (.aload_n 0, 1) := dk_42 (dk_at dksX4_operand_3 13 rfl rfl)
theorem dX4_operand_83 : decode cX4_operand 83 = .ok (.bipush 40, 2) := dk_16 40 (dk_at dksX4_operand_3 14 rfl rfl)
theorem dX4_operand_85 : decode cX4_operand 85 = .ok (.invokevirtual 208, 3) := dk_182 0 208 (dk_at dksX4_operand_3 16 rfl rfl)
theorem dX4_operand_88 : decode cX4_operand 88 = .ok (.ifCond .eq 7, 3) := dk_153 0 7 (dk_at dksX4_operand_3 19 rfl rfl)
theorem dX4_operand_91 : decode cX4_operand 91 = .ok (.iconst 1, 1) := dk_4 (dk_at dksX4_operand_3 22 rfl rfl)
theorem dX4_operand_92 : decode cX4_operand 92 = .ok (.goto 4, 3) := dk_167 0 4 (dk_at dksX4_operand_4 0 rfl rfl)
theorem dX4_operand_95 : decode cX4_operand 95 = .ok (.iconst 0, 1) := dk_3 (dk_at dksX4_operand_4 3 rfl rfl)
theorem dX4_operand_96 : decode cX4_operand 96 = .ok (.istore_n 3, 1) := dk_62 (dk_at dksX4_operand_4 4 rfl rfl)
theorem dX4_operand_97 : decode cX4_operand 97 = .ok (.iload_n 3, 1) := dk_29 (dk_at dksX4_operand_4 5 rfl rfl)
theorem dX4_operand_98 : decode cX4_operand 98 = .ok (.ifCond .eq 19, 3) := dk_153 0 19 (dk_at dksX4_operand_4 6 rfl rfl)
theorem dX4_operand_101 : decode cX4_operand 101 = .ok (.aload_n 0, 1) := dk_42 (dk_at dksX4_operand_4 9 rfl rfl)
theorem dX4_operand_102 : decode cX4_operand 102 = .ok (.bipush 14, 2) := dk_16 14 (dk_at dksX4_operand_4 10 rfl rfl)
theorem dX4_operand_104 : decode cX4_operand 104 = .ok (.invokevirtual 211, 3) := dk_182 0 211 (dk_at dksX4_operand_4 12 rfl rfl)
theorem dX4_operand_107 : decode cX4_operand 107 = .ok (.aload_n 0, 1) := dk_42 (dk_at dksX4_operand_4 15 rfl rfl)
theorem dX4_operand_108 : decode cX4_operand 108 = .ok (.invokevirtual 180, 3) := dk_182 0 180 (dk_at dksX4_operand_4 16 rfl rfl)
theorem dX4_operand_111 : decode cX4_operand 111 = .ok (.aload_n 0, 1) := dk_42 (dk_at dksX4_operand_4 19 rfl rfl)
theorem dX4_operand_112 : decode cX4_operand 112 = .ok (.invokevirtual 214, 3) := dk_182 0 214 (dk_at dksX4_operand_4 20 rfl rfl)
theorem dX4_operand_115 : decode cX4_operand 115 = .ok (.iconst 1, 1) := dk_4 (dk_at dksX4_operand_4 23 rfl rfl)
theorem dX4_operand_116 : decode cX4_operand 116 = .ok (.istore_n 2, 1) := dk_61 (dk_at dksX4_operand_5 0 rfl rfl)
theorem dX4_operand_117 : decode cX4_operand 117 = .ok (.goto (-113), 3) := dk_167 255 143 (dk_at dksX4_operand_5 1 rfl rfl)
theorem dX4_operand_120 : decode cX4_operand 120 = .ok (.aload_n 0, 1) := dk_42 (dk_at dksX4_operand_5 4 rfl rfl)
theorem dX4_operand_121 : decode cX4_operand 121 = .ok (.invokevirtual 217, 3) := dk_182 0 217 (dk_at dksX4_operand_5 5 rfl rfl)
theorem dX4_operand_124 : decode cX4_operand 124 = .ok (.return_, 1) := dk_177 (dk_at dksX4_operand_5 8 rfl rfl)
abbrev cX4_expression : ByteArray := prog_12_method_33_code
def yX4_expression : MethodName := ⟨RX4, "expression", "()V"⟩
def dkwX4_expression_15 : List UInt8 := [182, 0, 198, 177]
abbrev dktX4_expression_15 : List UInt8 := dkwX4_expression_15 ++ []
def dkwX4_expression_14 : List UInt8 := [153, 0, 16, 42, 180, 0, 205, 4, 164, 0, 8, 42, 4, 182, 0, 183, 42, 3, 182, 0, 220, 42, 3]
abbrev dktX4_expression_14 : List UInt8 := dkwX4_expression_14 ++ dktX4_expression_15
def dkwX4_expression_13 : List UInt8 := [42, 182, 0, 227, 153, 0, 10, 42, 182, 0, 230, 167, 0, 5, 3, 60, 167, 254, 219, 42, 182, 0, 176]
abbrev dktX4_expression_13 : List UInt8 := dkwX4_expression_13 ++ dktX4_expression_14
def dkwX4_expression_12 : List UInt8 := [182, 0, 211, 42, 182, 0, 180, 42, 3, 182, 0, 223, 167, 0, 28, 42, 16, 41, 182, 0, 208, 153, 0, 17]
abbrev dktX4_expression_12 : List UInt8 := dkwX4_expression_12 ++ dktX4_expression_13
def dkwX4_expression_11 : List UInt8 := [42, 16, 6, 182, 0, 220, 42, 42, 16, 42, 182, 0, 208, 153, 0, 8, 16, 10, 167, 0, 5, 16, 11]
abbrev dktX4_expression_11 : List UInt8 := dkwX4_expression_11 ++ dktX4_expression_12
def dkwX4_expression_10 : List UInt8 := [182, 0, 223, 167, 0, 84, 42, 16, 42, 182, 0, 208, 154, 0, 12, 42, 16, 47, 182, 0, 208, 153, 0, 41]
abbrev dktX4_expression_10 : List UInt8 := dkwX4_expression_10 ++ dktX4_expression_11
def dkwX4_expression_9 : List UInt8 := [182, 0, 208, 153, 0, 8, 16, 8, 167, 0, 5, 16, 9, 182, 0, 211, 42, 182, 0, 180, 42, 3]
abbrev dktX4_expression_9 : List UInt8 := dkwX4_expression_9 ++ dktX4_expression_10
def dkwX4_expression_8 : List UInt8 := [182, 0, 208, 154, 0, 12, 42, 16, 45, 182, 0, 208, 153, 0, 40, 42, 8, 182, 0, 220, 42, 42, 16, 43]
abbrev dktX4_expression_8 : List UInt8 := dkwX4_expression_8 ++ dktX4_expression_9
def dkwX4_expression_7 : List UInt8 := [180, 0, 62, 42, 180, 0, 205, 4, 84, 42, 182, 0, 180, 42, 3, 182, 0, 223, 167, 0, 139, 42, 16, 43]
abbrev dktX4_expression_7 : List UInt8 := dkwX4_expression_7 ++ dktX4_expression_8
def dkwX4_expression_6 : List UInt8 := [182, 0, 220, 42, 42, 16, 60, 182, 0, 208, 153, 0, 8, 16, 6, 167, 0, 5, 16, 7, 182, 0, 211, 42]
abbrev dktX4_expression_6 : List UInt8 := dkwX4_expression_6 ++ dktX4_expression_7
def dkwX4_expression_5 : List UInt8 := [16, 61, 182, 0, 208, 153, 0, 62, 42, 180, 0, 62, 42, 180, 0, 205, 51, 154, 0, 50, 42, 7]
abbrev dktX4_expression_5 : List UInt8 := dkwX4_expression_5 ++ dktX4_expression_6
def dkwX4_expression_4 : List UInt8 := [84, 42, 182, 0, 180, 42, 4, 182, 0, 223, 167, 0, 216, 42, 16, 60, 182, 0, 208, 154, 0, 12, 42]
abbrev dktX4_expression_4 : List UInt8 := dkwX4_expression_4 ++ dktX4_expression_5
def dkwX4_expression_3 : List UInt8 := [42, 28, 16, 12, 160, 0, 7, 7, 167, 0, 4, 8, 182, 0, 211, 42, 180, 0, 62, 42, 180, 0, 205, 3]
abbrev dktX4_expression_3 : List UInt8 := dkwX4_expression_3 ++ dktX4_expression_4
def dkwX4_expression_2 : List UInt8 := [159, 0, 9, 28, 16, 13, 160, 0, 55, 42, 28, 16, 12, 160, 0, 7, 5, 167, 0, 4, 4, 182, 0, 220]
abbrev dktX4_expression_2 : List UInt8 := dkwX4_expression_2 ++ dktX4_expression_3
def dkwX4_expression_1 : List UInt8 := [182, 0, 223, 4, 60, 27, 153, 1, 39, 42, 182, 0, 176, 153, 1, 32, 42, 182, 0, 201, 61, 28, 16, 12]
abbrev dktX4_expression_1 : List UInt8 := dkwX4_expression_1 ++ dktX4_expression_2
def dkwX4_expression_0 : List UInt8 := [42, 182, 0, 176, 154, 0, 4, 177, 42, 3, 181, 0, 189, 42, 3, 181, 0, 205, 42, 182, 0, 214, 42, 4]
abbrev dktX4_expression_0 : List UInt8 := dkwX4_expression_0 ++ dktX4_expression_1
theorem dksX4_expression_0 : cX4_expression.data.toList.drop 0 = dktX4_expression_0 := by decide +kernel
theorem dksX4_expression_1 : cX4_expression.data.toList.drop 24 = dktX4_expression_1 := dk_seg dksX4_expression_0 24 rfl rfl
theorem dksX4_expression_2 : cX4_expression.data.toList.drop 48 = dktX4_expression_2 := dk_seg dksX4_expression_1 24 rfl rfl
theorem dksX4_expression_3 : cX4_expression.data.toList.drop 72 = dktX4_expression_3 := dk_seg dksX4_expression_2 24 rfl rfl
theorem dksX4_expression_4 : cX4_expression.data.toList.drop 96 = dktX4_expression_4 := dk_seg dksX4_expression_3 24 rfl rfl
theorem dksX4_expression_5 : cX4_expression.data.toList.drop 119 = dktX4_expression_5 := dk_seg dksX4_expression_4 23 rfl rfl
theorem dksX4_expression_6 : cX4_expression.data.toList.drop 141 = dktX4_expression_6 := dk_seg dksX4_expression_5 22 rfl rfl
theorem dksX4_expression_7 : cX4_expression.data.toList.drop 165 = dktX4_expression_7 := dk_seg dksX4_expression_6 24 rfl rfl
theorem dksX4_expression_8 : cX4_expression.data.toList.drop 189 = dktX4_expression_8 := dk_seg dksX4_expression_7 24 rfl rfl
theorem dksX4_expression_9 : cX4_expression.data.toList.drop 213 = dktX4_expression_9 := dk_seg dksX4_expression_8 24 rfl rfl
theorem dksX4_expression_10 : cX4_expression.data.toList.drop 235 = dktX4_expression_10 := dk_seg dksX4_expression_9 22 rfl rfl
theorem dksX4_expression_11 : cX4_expression.data.toList.drop 259 = dktX4_expression_11 := dk_seg dksX4_expression_10 24 rfl rfl
theorem dksX4_expression_12 : cX4_expression.data.toList.drop 282 = dktX4_expression_12 := dk_seg dksX4_expression_11 23 rfl rfl
theorem dksX4_expression_13 : cX4_expression.data.toList.drop 306 = dktX4_expression_13 := dk_seg dksX4_expression_12 24 rfl rfl
theorem dksX4_expression_14 : cX4_expression.data.toList.drop 329 = dktX4_expression_14 := dk_seg dksX4_expression_13 23 rfl rfl
theorem dksX4_expression_15 : cX4_expression.data.toList.drop 352 = dktX4_expression_15 := dk_seg dksX4_expression_14 23 rfl rfl
theorem dX4_expression_0 : decode cX4_expression 0 = .ok (.aload_n 0, 1) := dk_42 (dk_at dksX4_expression_0 0 rfl rfl)
theorem dX4_expression_1 : decode cX4_expression 1 = .ok (.invokevirtual 176, 3) := dk_182 0 176 (dk_at dksX4_expression_0 1 rfl rfl)
theorem dX4_expression_4 : decode cX4_expression 4 = .ok (.ifCond .ne 4, 3) := dk_154 0 4 (dk_at dksX4_expression_0 4 rfl rfl)
theorem dX4_expression_7 : decode cX4_expression 7 = .ok (.return_, 1) := dk_177 (dk_at dksX4_expression_0 7 rfl rfl)
theorem dX4_expression_8 : decode cX4_expression 8 = .ok (.aload_n 0, 1) := dk_42 (dk_at dksX4_expression_0 8 rfl rfl)
theorem dX4_expression_9 : decode cX4_expression 9 = .ok (.iconst 0, 1) := dk_3 (dk_at dksX4_expression_0 9 rfl rfl)
theorem dX4_expression_10 : decode cX4_expression 10 = .ok (.putfield 189, 3) := dk_181 0 189 (dk_at dksX4_expression_0 10 rfl rfl)
theorem dX4_expression_13 : decode cX4_expression 13 = .ok (.aload_n 0, 1) := dk_42 (dk_at dksX4_expression_0 13 rfl rfl)
theorem dX4_expression_14 : decode cX4_expression 14 = .ok (.iconst 0, 1) := dk_3 (dk_at dksX4_expression_0 14 rfl rfl)
theorem dX4_expression_15 : decode cX4_expression 15 = .ok (.putfield 205, 3) := dk_181 0 205 (dk_at dksX4_expression_0 15 rfl rfl)
theorem dX4_expression_18 : decode cX4_expression 18 = .ok (.aload_n 0, 1) := dk_42 (dk_at dksX4_expression_0 18 rfl rfl)
theorem dX4_expression_19 : decode cX4_expression 19 = .ok (.invokevirtual 214, 3) := dk_182 0 214 (dk_at dksX4_expression_0 19 rfl rfl)
theorem dX4_expression_22 : decode cX4_expression 22 = .ok (.aload_n 0, 1) := dk_42 (dk_at dksX4_expression_0 22 rfl rfl)
theorem dX4_expression_23 : decode cX4_expression 23 = .ok (.iconst 1, 1) := dk_4 (dk_at dksX4_expression_0 23 rfl rfl)
theorem dX4_expression_24 : decode cX4_expression 24 = .ok (.invokevirtual 223, 3) := dk_182 0 223 (dk_at dksX4_expression_1 0 rfl rfl)
theorem dX4_expression_27 : decode cX4_expression 27 = .ok (.iconst 1, 1) := dk_4 (dk_at dksX4_expression_1 3 rfl rfl)
theorem dX4_expression_28 : decode cX4_expression 28 = .ok (.istore_n 1, 1) := dk_60 (dk_at dksX4_expression_1 4 rfl rfl)
theorem dX4_expression_29 : decode cX4_expression 29 = .ok (.iload_n 1, 1) := dk_27 (dk_at dksX4_expression_1 5 rfl rfl)
theorem dX4_expression_30 : decode cX4_expression 30 = .ok (.ifCond .eq 295, 3) := dk_153 1 39 (dk_at dksX4_expression_1 6 rfl rfl)
theorem dX4_expression_33 : decode cX4_expression 33 = .ok (.aload_n 0, 1) := dk_42 (dk_at dksX4_expression_1 9 rfl rfl)
theorem dX4_expression_34 : decode cX4_expression 34 = .ok (.invokevirtual 176, 3) := dk_182 0 176 (dk_at dksX4_expression_1 10 rfl rfl)
theorem dX4_expression_37 : decode cX4_expression 37 = .ok (.ifCond .eq 288, 3) := dk_153 1 32 (dk_at dksX4_expression_1 13 rfl rfl)
theorem dX4_expression_40 : decode cX4_expression 40 = .ok (.aload_n 0, 1) := dk_42 (dk_at dksX4_expression_1 16 rfl rfl)
theorem dX4_expression_41 : decode cX4_expression 41 = .ok (.invokevirtual 201, 3) := dk_182 0 201 (dk_at dksX4_expression_1 17 rfl rfl)
theorem dX4_expression_44 : decode cX4_expression 44 = .ok (.istore_n 2, 1) := dk_61 (dk_at dksX4_expression_1 20 rfl rfl)
theorem dX4_expression_45 : decode cX4_expression 45 = .ok (.iload_n 2, 1) := dk_28 (dk_at dksX4_expression_1 21 rfl rfl)
theorem dX4_expression_46 : decode cX4_expression 46 = .ok (.bipush 12, 2) := dk_16 12 (dk_at dksX4_expression_1 22 rfl rfl)
theorem dX4_expression_48 : decode cX4_expression 48 = .ok (.if_icmp .eq 9, 3) := dk_159 0 9 (dk_at dksX4_expression_2 0 rfl rfl)
theorem dX4_expression_51 : decode cX4_expression 51 = .ok (.iload_n 2, 1) := dk_28 (dk_at dksX4_expression_2 3 rfl rfl)
theorem dX4_expression_52 : decode cX4_expression 52 = .ok (.bipush 13, 2) := dk_16 13 (dk_at dksX4_expression_2 4 rfl rfl)
theorem dX4_expression_54 : decode cX4_expression 54 = .ok (.if_icmp .ne 55, 3) := dk_160 0 55 (dk_at dksX4_expression_2 6 rfl rfl)
theorem dX4_expression_57 : decode cX4_expression 57 = .ok (.aload_n 0, 1) := dk_42 (dk_at dksX4_expression_2 9 rfl rfl)
theorem dX4_expression_58 : decode cX4_expression 58 = .ok (.iload_n 2, 1) := dk_28 (dk_at dksX4_expression_2 10 rfl rfl)
theorem dX4_expression_59 : decode cX4_expression 59 = .ok (.bipush 12, 2) := dk_16 12 (dk_at dksX4_expression_2 11 rfl rfl)
theorem dX4_expression_61 : decode cX4_expression 61 = .ok (.if_icmp .ne 7, 3) := dk_160 0 7 (dk_at dksX4_expression_2 13 rfl rfl)
theorem dX4_expression_64 : decode cX4_expression 64 = .ok (.iconst 2, 1) := dk_5 (dk_at dksX4_expression_2 16 rfl rfl)
theorem dX4_expression_65 : decode cX4_expression 65 = .ok (.goto 4, 3) := dk_167 0 4 (dk_at dksX4_expression_2 17 rfl rfl)
theorem dX4_expression_68 : decode cX4_expression 68 = .ok (.iconst 1, 1) := dk_4 (dk_at dksX4_expression_2 20 rfl rfl)
theorem dX4_expression_69 : decode cX4_expression 69 = .ok (.invokevirtual 220, 3) := dk_182 0 220 (dk_at dksX4_expression_2 21 rfl rfl)
theorem dX4_expression_72 : decode cX4_expression 72 = .ok (.aload_n 0, 1) := dk_42 (dk_at dksX4_expression_3 0 rfl rfl)
theorem dX4_expression_73 : decode cX4_expression 73 = .ok (.iload_n 2, 1) := dk_28 (dk_at dksX4_expression_3 1 rfl rfl)
theorem dX4_expression_74 : decode cX4_expression 74 = .ok (.bipush 12, 2) := dk_16 12 (dk_at dksX4_expression_3 2 rfl rfl)
theorem dX4_expression_76 : decode cX4_expression 76 = .ok (.if_icmp .ne 7, 3) := dk_160 0 7 (dk_at dksX4_expression_3 4 rfl rfl)
theorem dX4_expression_79 : decode cX4_expression 79 = .ok (.iconst 4, 1) := dk_7 (dk_at dksX4_expression_3 7 rfl rfl)
theorem dX4_expression_80 : decode cX4_expression 80 = .ok (.goto 4, 3) := dk_167 0 4 (dk_at dksX4_expression_3 8 rfl rfl)
theorem dX4_expression_83 : decode cX4_expression 83 = .ok (.iconst 5, 1) := dk_8 (dk_at dksX4_expression_3 11 rfl rfl)
theorem dX4_expression_84 : decode cX4_expression 84 = .ok (.invokevirtual 211, 3) := dk_182 0 211 (dk_at dksX4_expression_3 12 rfl rfl)
theorem dX4_expression_87 : decode cX4_expression 87 = .ok (.aload_n 0, 1) := dk_42 (dk_at dksX4_expression_3 15 rfl rfl)
theorem dX4_expression_88 : decode cX4_expression 88 = .ok (.getfield 62, 3) := dk_180 0 62 (dk_at dksX4_expression_3 16 rfl rfl)
theorem dX4_expression_91 : decode cX4_expression 91 = .ok (.aload_n 0, 1) := dk_42 (dk_at dksX4_expression_3 19 rfl rfl)
theorem dX4_expression_92 : decode cX4_expression 92 = .ok (.getfield 205, 3) := dk_180 0 205 (dk_at dksX4_expression_3 20 rfl rfl)
theorem dX4_expression_95 : decode cX4_expression 95 = .ok (.iconst 0, 1) := dk_3 (dk_at dksX4_expression_3 23 rfl rfl)
theorem dX4_expression_96 : decode cX4_expression 96 = .ok (.bastore, 1) := dk_84 (dk_at dksX4_expression_4 0 rfl rfl)
theorem dX4_expression_97 : decode cX4_expression 97 = .ok (.aload_n 0, 1) := dk_42 (dk_at dksX4_expression_4 1 rfl rfl)
theorem dX4_expression_98 : decode cX4_expression 98 = .ok (.invokevirtual 180, 3) := dk_182 0 180 (dk_at dksX4_expression_4 2 rfl rfl)
theorem dX4_expression_101 : decode cX4_expression 101 = .ok (.aload_n 0, 1) := dk_42 (dk_at dksX4_expression_4 5 rfl rfl)
theorem dX4_expression_102 : decode cX4_expression 102 = .ok (.iconst 1, 1) := dk_4 (dk_at dksX4_expression_4 6 rfl rfl)
theorem dX4_expression_103 : decode cX4_expression 103 = .ok (.invokevirtual 223, 3) := dk_182 0 223 (dk_at dksX4_expression_4 7 rfl rfl)
theorem dX4_expression_106 : decode cX4_expression 106 = .ok (.goto 216, 3) := dk_167 0 216 (dk_at dksX4_expression_4 10 rfl rfl)
theorem dX4_expression_109 : decode cX4_expression 109 = .ok (.aload_n 0, 1) := dk_42 (dk_at dksX4_expression_4 13 rfl rfl)
theorem dX4_expression_110 : decode cX4_expression 110 = .ok (.bipush 60, 2) := dk_16 60 (dk_at dksX4_expression_4 14 rfl rfl)
theorem dX4_expression_112 : decode cX4_expression 112 = .ok (.invokevirtual 208, 3) := dk_182 0 208 (dk_at dksX4_expression_4 16 rfl rfl)
theorem dX4_expression_115 : decode cX4_expression 115 = .ok (.ifCond .ne 12, 3) := dk_154 0 12 (dk_at dksX4_expression_4 19 rfl rfl)
theorem dX4_expression_118 : decode cX4_expression 118 = .ok (.aload_n 0, 1) := dk_42 (dk_at dksX4_expression_4 22 rfl rfl)
theorem dX4_expression_119 : decode cX4_expression 119 = .ok (.bipush 61, 2) := dk_16 61 (dk_at dksX4_expression_5 0 rfl rfl)
theorem dX4_expression_121 : decode cX4_expression 121 = .ok (.invokevirtual 208, 3) := dk_182 0 208 (dk_at dksX4_expression_5 2 rfl rfl)
theorem dX4_expression_124 : decode cX4_expression 124 = .ok (.ifCond .eq 62, 3) := dk_153 0 62 (dk_at dksX4_expression_5 5 rfl rfl)
theorem dX4_expression_127 : decode cX4_expression 127 = .ok (.aload_n 0, 1) := dk_42 (dk_at dksX4_expression_5 8 rfl rfl)
theorem dX4_expression_128 : decode cX4_expression 128 = .ok (.getfield 62, 3) := dk_180 0 62 (dk_at dksX4_expression_5 9 rfl rfl)
theorem dX4_expression_131 : decode cX4_expression 131 = .ok (.aload_n 0, 1) := dk_42 (dk_at dksX4_expression_5 12 rfl rfl)
theorem dX4_expression_132 : decode cX4_expression 132 = .ok (.getfield 205, 3) := dk_180 0 205 (dk_at dksX4_expression_5 13 rfl rfl)
theorem dX4_expression_135 : decode cX4_expression 135 = .ok (.baload, 1) := dk_51 (dk_at dksX4_expression_5 16 rfl rfl)
theorem dX4_expression_136 : decode cX4_expression 136 = .ok (.ifCond .ne 50, 3) := dk_154 0 50 (dk_at dksX4_expression_5 17 rfl rfl)
theorem dX4_expression_139 : decode cX4_expression 139 = .ok (.aload_n 0, 1) := dk_42 (dk_at dksX4_expression_5 20 rfl rfl)
theorem dX4_expression_140 : decode cX4_expression 140 = .ok (.iconst 4, 1) := dk_7 (dk_at dksX4_expression_5 21 rfl rfl)
theorem dX4_expression_141 : decode cX4_expression 141 = .ok (.invokevirtual 220, 3) := dk_182 0 220 (dk_at dksX4_expression_6 0 rfl rfl)
theorem dX4_expression_144 : decode cX4_expression 144 = .ok (.aload_n 0, 1) := dk_42 (dk_at dksX4_expression_6 3 rfl rfl)
theorem dX4_expression_145 : decode cX4_expression 145 = .ok (.aload_n 0, 1) := dk_42 (dk_at dksX4_expression_6 4 rfl rfl)
theorem dX4_expression_146 : decode cX4_expression 146 = .ok (.bipush 60, 2) := dk_16 60 (dk_at dksX4_expression_6 5 rfl rfl)
theorem dX4_expression_148 : decode cX4_expression 148 = .ok (.invokevirtual 208, 3) := dk_182 0 208 (dk_at dksX4_expression_6 7 rfl rfl)
theorem dX4_expression_151 : decode cX4_expression 151 = .ok (.ifCond .eq 8, 3) := dk_153 0 8 (dk_at dksX4_expression_6 10 rfl rfl)
theorem dX4_expression_154 : decode cX4_expression 154 = .ok (.bipush 6, 2) := dk_16 6 (dk_at dksX4_expression_6 13 rfl rfl)
theorem dX4_expression_156 : decode cX4_expression 156 = .ok (.goto 5, 3) := dk_167 0 5 (dk_at dksX4_expression_6 15 rfl rfl)
theorem dX4_expression_159 : decode cX4_expression 159 = .ok (.bipush 7, 2) := dk_16 7 (dk_at dksX4_expression_6 18 rfl rfl)
theorem dX4_expression_161 : decode cX4_expression 161 = .ok (.invokevirtual 211, 3) := dk_182 0 211 (dk_at dksX4_expression_6 20 rfl rfl)
theorem dX4_expression_164 : decode cX4_expression 164 = .ok (.aload_n 0, 1) := dk_42 (dk_at dksX4_expression_6 23 rfl rfl)
theorem dX4_expression_165 : decode cX4_expression 165 = .ok (.getfield 62, 3) := dk_180 0 62 (dk_at dksX4_expression_7 0 rfl rfl)
theorem dX4_expression_168 : decode cX4_expression 168 = .ok (.aload_n 0, 1) := dk_42 (dk_at dksX4_expression_7 3 rfl rfl)
theorem dX4_expression_169 : decode cX4_expression 169 = .ok (.getfield 205, 3) := dk_180 0 205 (dk_at dksX4_expression_7 4 rfl rfl)
theorem dX4_expression_172 : decode cX4_expression 172 = .ok (.iconst 1, 1) := dk_4 (dk_at dksX4_expression_7 7 rfl rfl)
theorem dX4_expression_173 : decode cX4_expression 173 = .ok (.bastore, 1) := dk_84 (dk_at dksX4_expression_7 8 rfl rfl)
theorem dX4_expression_174 : decode cX4_expression 174 = .ok (.aload_n 0, 1) := dk_42 (dk_at dksX4_expression_7 9 rfl rfl)
theorem dX4_expression_175 : decode cX4_expression 175 = .ok (.invokevirtual 180, 3) := dk_182 0 180 (dk_at dksX4_expression_7 10 rfl rfl)
theorem dX4_expression_178 : decode cX4_expression 178 = .ok (.aload_n 0, 1) := dk_42 (dk_at dksX4_expression_7 13 rfl rfl)
theorem dX4_expression_179 : decode cX4_expression 179 = .ok (.iconst 0, 1) := dk_3 (dk_at dksX4_expression_7 14 rfl rfl)
theorem dX4_expression_180 : decode cX4_expression 180 = .ok (.invokevirtual 223, 3) := dk_182 0 223 (dk_at dksX4_expression_7 15 rfl rfl)
theorem dX4_expression_183 : decode cX4_expression 183 = .ok (.goto 139, 3) := dk_167 0 139 (dk_at dksX4_expression_7 18 rfl rfl)
theorem dX4_expression_186 : decode cX4_expression 186 = .ok (.aload_n 0, 1) := dk_42 (dk_at dksX4_expression_7 21 rfl rfl)
theorem dX4_expression_187 : decode cX4_expression 187 = .ok (.bipush 43, 2) := dk_16 43 (dk_at dksX4_expression_7 22 rfl rfl)
theorem dX4_expression_189 : decode cX4_expression 189 = .ok (.invokevirtual 208, 3) := dk_182 0 208 (dk_at dksX4_expression_8 0 rfl rfl)
theorem dX4_expression_192 : decode cX4_expression 192 = .ok (.ifCond .ne 12, 3) := dk_154 0 12 (dk_at dksX4_expression_8 3 rfl rfl)
theorem dX4_expression_195 : decode cX4_expression 195 = .ok (.aload_n 0, 1) := dk_42 (dk_at dksX4_expression_8 6 rfl rfl)
theorem dX4_expression_196 : decode cX4_expression 196 = .ok (.bipush 45, 2) := dk_16 45 (dk_at dksX4_expression_8 7 rfl rfl)
theorem dX4_expression_198 : decode cX4_expression 198 = .ok (.invokevirtual 208, 3) := dk_182 0 208 (dk_at dksX4_expression_8 9 rfl rfl)
theorem dX4_expression_201 : decode cX4_expression 201 = .ok (.ifCond .eq 40, 3) := dk_153 0 40 (dk_at dksX4_expression_8 12 rfl rfl)
theorem dX4_expression_204 : decode cX4_expression 204 = .ok (.aload_n 0, 1) := dk_42 (dk_at dksX4_expression_8 15 rfl rfl)
theorem dX4_expression_205 : decode cX4_expression 205 = .ok (.iconst 5, 1) := dk_8 (dk_at dksX4_expression_8 16 rfl rfl)
theorem dX4_expression_206 : decode cX4_expression 206 = .ok (.invokevirtual 220, 3) := dk_182 0 220 (dk_at dksX4_expression_8 17 rfl rfl)
theorem dX4_expression_209 : decode cX4_expression 209 = .ok (.aload_n 0, 1) := dk_42 (dk_at dksX4_expression_8 20 rfl rfl)
theorem dX4_expression_210 : decode cX4_expression 210 = .ok (.aload_n 0, 1) := dk_42 (dk_at dksX4_expression_8 21 rfl rfl)
theorem dX4_expression_211 : decode cX4_expression 211 = .ok (.bipush 43, 2) := dk_16 43 (dk_at dksX4_expression_8 22 rfl rfl)
theorem dX4_expression_213 : decode cX4_expression 213 = .ok (.invokevirtual 208, 3) := dk_182 0 208 (dk_at dksX4_expression_9 0 rfl rfl)
theorem dX4_expression_216 : decode cX4_expression 216 = .ok (.ifCond .eq 8, 3) := dk_153 0 8 (dk_at dksX4_expression_9 3 rfl rfl)
theorem dX4_expression_219 : decode cX4_expression 219 = .ok (.bipush 8, 2) := dk_16 8 (dk_at dksX4_expression_9 6 rfl rfl)
theorem dX4_expression_221 : decode cX4_expression 221 = .ok (.goto 5, 3) := dk_167 0 5 (dk_at dksX4_expression_9 8 rfl rfl)
theorem dX4_expression_224 : decode cX4_expression 224 = .ok (.bipush 9, 2) := dk_16 9 (dk_at dksX4_expression_9 11 rfl rfl)
theorem dX4_expression_226 : decode cX4_expression 226 = .ok (.invokevirtual 211, 3) := dk_182 0 211 (dk_at dksX4_expression_9 13 rfl rfl)
theorem dX4_expression_229 : decode cX4_expression 229 = .ok (.aload_n 0, 1) := dk_42 (dk_at dksX4_expression_9 16 rfl rfl)
theorem dX4_expression_230 : decode cX4_expression 230 = .ok (.invokevirtual 180, 3) := dk_182 0 180 (dk_at dksX4_expression_9 17 rfl rfl)
theorem dX4_expression_233 : decode cX4_expression 233 = .ok (.aload_n 0, 1) := dk_42 (dk_at dksX4_expression_9 20 rfl rfl)
theorem dX4_expression_234 : decode cX4_expression 234 = .ok (.iconst 0, 1) := dk_3 (dk_at dksX4_expression_9 21 rfl rfl)
theorem dX4_expression_235 : decode cX4_expression 235 = .ok (.invokevirtual 223, 3) := dk_182 0 223 (dk_at dksX4_expression_10 0 rfl rfl)
theorem dX4_expression_238 : decode cX4_expression 238 = .ok (.goto 84, 3) := dk_167 0 84 (dk_at dksX4_expression_10 3 rfl rfl)
theorem dX4_expression_241 : decode cX4_expression 241 = .ok (.aload_n 0, 1) := dk_42 (dk_at dksX4_expression_10 6 rfl rfl)
theorem dX4_expression_242 : decode cX4_expression 242 = .ok (.bipush 42, 2) := dk_16 42 (dk_at dksX4_expression_10 7 rfl rfl)
theorem dX4_expression_244 : decode cX4_expression 244 = .ok (.invokevirtual 208, 3) := dk_182 0 208 (dk_at dksX4_expression_10 9 rfl rfl)
theorem dX4_expression_247 : decode cX4_expression 247 = .ok (.ifCond .ne 12, 3) := dk_154 0 12 (dk_at dksX4_expression_10 12 rfl rfl)
theorem dX4_expression_250 : decode cX4_expression 250 = .ok (.aload_n 0, 1) := dk_42 (dk_at dksX4_expression_10 15 rfl rfl)
theorem dX4_expression_251 : decode cX4_expression 251 = .ok (.bipush 47, 2) := dk_16 47 (dk_at dksX4_expression_10 16 rfl rfl)
theorem dX4_expression_253 : decode cX4_expression 253 = .ok (.invokevirtual 208, 3) := dk_182 0 208 (dk_at dksX4_expression_10 18 rfl rfl)
theorem dX4_expression_256 : decode cX4_expression 256 = .ok (.ifCond .eq 41, 3) := dk_153 0 41 (dk_at dksX4_expression_10 21 rfl rfl)
theorem dX4_expression_259 : decode cX4_expression 259 = .ok (.aload_n 0, 1) := dk_42 (dk_at dksX4_expression_11 0 rfl rfl)
theorem dX4_expression_260 : decode cX4_expression 260 = .ok (.bipush 6, 2) := dk_16 6 (dk_at dksX4_expression_11 1 rfl rfl)
theorem dX4_expression_262 : decode cX4_expression 262 = .ok (.invokevirtual 220, 3) := dk_182 0 220 (dk_at dksX4_expression_11 3 rfl rfl)
theorem dX4_expression_265 : decode cX4_expression 265 = .ok (.aload_n 0, 1) := dk_42 (dk_at dksX4_expression_11 6 rfl rfl)
theorem dX4_expression_266 : decode cX4_expression 266 = .ok (.aload_n 0, 1) := dk_42 (dk_at dksX4_expression_11 7 rfl rfl)
theorem dX4_expression_267 : decode cX4_expression 267 = .ok (.bipush 42, 2) := dk_16 42 (dk_at dksX4_expression_11 8 rfl rfl)
theorem dX4_expression_269 : decode cX4_expression 269 = .ok (.invokevirtual 208, 3) := dk_182 0 208 (dk_at dksX4_expression_11 10 rfl rfl)
theorem dX4_expression_272 : decode cX4_expression 272 = .ok (.ifCond .eq 8, 3) := dk_153 0 8 (dk_at dksX4_expression_11 13 rfl rfl)
theorem dX4_expression_275 : decode cX4_expression 275 = .ok (.bipush 10, 2) := dk_16 10 (dk_at dksX4_expression_11 16 rfl rfl)
theorem dX4_expression_277 : decode cX4_expression 277 = .ok (.goto 5, 3) := dk_167 0 5 (dk_at dksX4_expression_11 18 rfl rfl)
theorem dX4_expression_280 : decode cX4_expression 280 = .ok (.bipush 11, 2) := dk_16 11 (dk_at dksX4_expression_11 21 rfl rfl)
theorem dX4_expression_282 : decode cX4_expression 282 = .ok (.invokevirtual 211, 3) := dk_182 0 211 (dk_at dksX4_expression_12 0 rfl rfl)
theorem dX4_expression_285 : decode cX4_expression 285 = .ok (.aload_n 0, 1) := dk_42 (dk_at dksX4_expression_12 3 rfl rfl)
theorem dX4_expression_286 : decode cX4_expression 286 = .ok (.invokevirtual 180, 3) := dk_182 0 180 (dk_at dksX4_expression_12 4 rfl rfl)
theorem dX4_expression_289 : decode cX4_expression 289 = .ok (.aload_n 0, 1) := dk_42 (dk_at dksX4_expression_12 7 rfl rfl)
theorem dX4_expression_290 : decode cX4_expression 290 = .ok (.iconst 0, 1) := dk_3 (dk_at dksX4_expression_12 8 rfl rfl)
theorem dX4_expression_291 : decode cX4_expression 291 = .ok (.invokevirtual 223, 3) := dk_182 0 223 (dk_at dksX4_expression_12 9 rfl rfl)
theorem dX4_expression_294 : decode cX4_expression 294 = .ok (.goto 28, 3) := dk_167 0 28 (dk_at dksX4_expression_12 12 rfl rfl)
theorem dX4_expression_297 : decode cX4_expression 297 = .ok (.aload_n 0, 1) := dk_42 (dk_at dksX4_expression_12 15 rfl rfl)
theorem dX4_expression_298 : decode cX4_expression 298 = .ok (.bipush 41, 2) := dk_16 41 (dk_at dksX4_expression_12 16 rfl rfl)
theorem dX4_expression_300 : decode cX4_expression 300 = .ok (.invokevirtual 208, 3) := dk_182 0 208 (dk_at dksX4_expression_12 18 rfl rfl)
theorem dX4_expression_303 : decode cX4_expression 303 = .ok (.ifCond .eq 17, 3) := dk_153 0 17 (dk_at dksX4_expression_12 21 rfl rfl)
theorem dX4_expression_306 : decode cX4_expression 306 = .ok (.aload_n 0, 1) := dk_42 (dk_at dksX4_expression_13 0 rfl rfl)
theorem dX4_expression_307 : decode cX4_expression 307 = .ok (.invokevirtual 227, 3) := dk_182 0 227 (dk_at dksX4_expression_13 1 rfl rfl)
theorem dX4_expression_310 : decode cX4_expression 310 = .ok (.ifCond .eq 10, 3) := dk_153 0 10 (dk_at dksX4_expression_13 4 rfl rfl)
theorem dX4_expression_313 : decode cX4_expression 313 = .ok (.aload_n 0, 1) := dk_42 (dk_at dksX4_expression_13 7 rfl rfl)
theorem dX4_expression_314 : decode cX4_expression 314 = .ok (.invokevirtual 230, 3) := dk_182 0 230 (dk_at dksX4_expression_13 8 rfl rfl)
theorem dX4_expression_317 : decode cX4_expression 317 = .ok (.goto 5, 3) := dk_167 0 5 (dk_at dksX4_expression_13 11 rfl rfl)
theorem dX4_expression_320 : decode cX4_expression 320 = .ok (.iconst 0, 1) := dk_3 (dk_at dksX4_expression_13 14 rfl rfl)
theorem dX4_expression_321 : decode cX4_expression 321 = .ok (.istore_n 1, 1) := dk_60 (dk_at dksX4_expression_13 15 rfl rfl)
theorem dX4_expression_322 : decode cX4_expression 322 = .ok (.goto (-293), 3) := dk_167 254 219 (dk_at dksX4_expression_13 16 rfl rfl)
theorem dX4_expression_325 : decode cX4_expression 325 = .ok (.aload_n 0, 1) := dk_42 (dk_at dksX4_expression_13 19 rfl rfl)
theorem dX4_expression_326 : decode cX4_expression 326 = .ok (.invokevirtual 176, 3) := dk_182 0 176 (dk_at dksX4_expression_13 20 rfl rfl)
theorem dX4_expression_329 : decode cX4_expression 329 = .ok (.ifCond .eq 16, 3) := dk_153 0 16 (dk_at dksX4_expression_14 0 rfl rfl)
theorem dX4_expression_332 : decode cX4_expression 332 = .ok (.aload_n 0, 1) := dk_42 (dk_at dksX4_expression_14 3 rfl rfl)
theorem dX4_expression_333 : decode cX4_expression 333 = .ok (.getfield 205, 3) := dk_180 0 205 (dk_at dksX4_expression_14 4 rfl rfl)
theorem dX4_expression_336 : decode cX4_expression 336 = .ok (.iconst 1, 1) := dk_4 (dk_at dksX4_expression_14 7 rfl rfl)
theorem dX4_expression_337 : decode cX4_expression 337 = .ok (.if_icmp .le 8, 3) := dk_164 0 8 (dk_at dksX4_expression_14 8 rfl rfl)
theorem dX4_expression_340 : decode cX4_expression 340 = .ok (.aload_n 0, 1) := dk_42 (dk_at dksX4_expression_14 11 rfl rfl)
theorem dX4_expression_341 : decode cX4_expression 341 = .ok (.iconst 1, 1) := dk_4 (dk_at dksX4_expression_14 12 rfl rfl)
theorem dX4_expression_342 : decode cX4_expression 342 = .ok (.invokevirtual 183, 3) := dk_182 0 183 (dk_at dksX4_expression_14 13 rfl rfl)
theorem dX4_expression_345 : decode cX4_expression 345 = .ok (.aload_n 0, 1) := dk_42 (dk_at dksX4_expression_14 16 rfl rfl)
theorem dX4_expression_346 : decode cX4_expression 346 = .ok (.iconst 0, 1) := dk_3 (dk_at dksX4_expression_14 17 rfl rfl)
theorem dX4_expression_347 : decode cX4_expression 347 = .ok (.invokevirtual 220, 3) := dk_182 0 220 (dk_at dksX4_expression_14 18 rfl rfl)
theorem dX4_expression_350 : decode cX4_expression 350 = .ok (.aload_n 0, 1) := dk_42 (dk_at dksX4_expression_14 21 rfl rfl)
theorem dX4_expression_351 : decode cX4_expression 351 = .ok (.iconst 0, 1) := dk_3 (dk_at dksX4_expression_14 22 rfl rfl)
theorem dX4_expression_352 : decode cX4_expression 352 = .ok (.invokevirtual 198, 3) := dk_182 0 198 (dk_at dksX4_expression_15 0 rfl rfl)
theorem dX4_expression_355 : decode cX4_expression 355 = .ok (.return_, 1) := dk_177 (dk_at dksX4_expression_15 3 rfl rfl)
abbrev cX4_need : ByteArray := prog_12_method_21_code
def yX4_need : MethodName := ⟨RX4, "need", "(Z)V"⟩
def dkwX4_need_1 : List UInt8 := [177]
abbrev dktX4_need_1 : List UInt8 := dkwX4_need_1 ++ []
def dkwX4_need_0 : List UInt8 := [42, 182, 0, 176, 154, 0, 4, 177, 27, 153, 0, 10, 42, 182, 0, 180, 167, 0, 8, 42, 4, 182, 0, 183]
abbrev dktX4_need_0 : List UInt8 := dkwX4_need_0 ++ dktX4_need_1
theorem dksX4_need_0 : cX4_need.data.toList.drop 0 = dktX4_need_0 := by decide +kernel
theorem dksX4_need_1 : cX4_need.data.toList.drop 24 = dktX4_need_1 := dk_seg dksX4_need_0 24 rfl rfl
theorem dX4_need_0 : decode cX4_need 0 = .ok (.aload_n 0, 1) := dk_42 (dk_at dksX4_need_0 0 rfl rfl)
theorem dX4_need_1 : decode cX4_need 1 = .ok (.invokevirtual 176, 3) := dk_182 0 176 (dk_at dksX4_need_0 1 rfl rfl)
theorem dX4_need_4 : decode cX4_need 4 = .ok (.ifCond .ne 4, 3) := dk_154 0 4 (dk_at dksX4_need_0 4 rfl rfl)
theorem dX4_need_7 : decode cX4_need 7 = .ok (.return_, 1) := dk_177 (dk_at dksX4_need_0 7 rfl rfl)
theorem dX4_need_8 : decode cX4_need 8 = .ok (.iload_n 1, 1) := dk_27 (dk_at dksX4_need_0 8 rfl rfl)
theorem dX4_need_9 : decode cX4_need 9 = .ok (.ifCond .eq 10, 3) := dk_153 0 10 (dk_at dksX4_need_0 9 rfl rfl)
theorem dX4_need_12 : decode cX4_need 12 = .ok (.aload_n 0, 1) := dk_42 (dk_at dksX4_need_0 12 rfl rfl)
theorem dX4_need_13 : decode cX4_need 13 = .ok (.invokevirtual 180, 3) := dk_182 0 180 (dk_at dksX4_need_0 13 rfl rfl)
theorem dX4_need_16 : decode cX4_need 16 = .ok (.goto 8, 3) := dk_167 0 8 (dk_at dksX4_need_0 16 rfl rfl)
theorem dX4_need_19 : decode cX4_need 19 = .ok (.aload_n 0, 1) := dk_42 (dk_at dksX4_need_0 19 rfl rfl)
theorem dX4_need_20 : decode cX4_need 20 = .ok (.iconst 1, 1) := dk_4 (dk_at dksX4_need_0 20 rfl rfl)
theorem dX4_need_21 : decode cX4_need 21 = .ok (.invokevirtual 183, 3) := dk_182 0 183 (dk_at dksX4_need_0 21 rfl rfl)
theorem dX4_need_24 : decode cX4_need 24 = .ok (.return_, 1) := dk_177 (dk_at dksX4_need_1 0 rfl rfl)
abbrev cX4_number : ByteArray := prog_12_method_22_code
def yX4_number : MethodName := ⟨RX4, "number", "(II)I"⟩
def dkwX4_number_3 : List UInt8 := [29, 172]
abbrev dktX4_number_3 : List UInt8 := dkwX4_number_3 ++ []
def dkwX4_number_2 : List UInt8 := [164, 0, 8, 42, 5, 182, 0, 183, 42, 180, 0, 144, 62, 42, 182, 0, 176, 153, 0, 7, 42, 182, 0, 180]
abbrev dktX4_number_2 : List UInt8 := dkwX4_number_2 ++ dktX4_number_3
def dkwX4_number_1 : List UInt8 := [167, 0, 32, 42, 180, 0, 160, 7, 163, 0, 19, 42, 180, 0, 144, 27, 161, 0, 11, 42, 180, 0, 144, 28]
abbrev dktX4_number_1 : List UInt8 := dkwX4_number_1 ++ dktX4_number_2
def dkwX4_number_0 : List UInt8 := [42, 182, 0, 176, 154, 0, 5, 3, 172, 42, 180, 0, 150, 5, 159, 0, 11, 42, 4, 182, 0, 183]
abbrev dktX4_number_0 : List UInt8 := dkwX4_number_0 ++ dktX4_number_1
theorem dksX4_number_0 : cX4_number.data.toList.drop 0 = dktX4_number_0 := by decide +kernel
theorem dksX4_number_1 : cX4_number.data.toList.drop 22 = dktX4_number_1 := dk_seg dksX4_number_0 22 rfl rfl
theorem dksX4_number_2 : cX4_number.data.toList.drop 46 = dktX4_number_2 := dk_seg dksX4_number_1 24 rfl rfl
theorem dksX4_number_3 : cX4_number.data.toList.drop 70 = dktX4_number_3 := dk_seg dksX4_number_2 24 rfl rfl
theorem dX4_number_0 : decode cX4_number 0 = .ok (.aload_n 0, 1) := dk_42 (dk_at dksX4_number_0 0 rfl rfl)
theorem dX4_number_1 : decode cX4_number 1 = .ok (.invokevirtual 176, 3) := dk_182 0 176 (dk_at dksX4_number_0 1 rfl rfl)
theorem dX4_number_4 : decode cX4_number 4 = .ok (.ifCond .ne 5, 3) := dk_154 0 5 (dk_at dksX4_number_0 4 rfl rfl)
theorem dX4_number_7 : decode cX4_number 7 = .ok (.iconst 0, 1) := dk_3 (dk_at dksX4_number_0 7 rfl rfl)
theorem dX4_number_8 : decode cX4_number 8 = .ok (.ireturn, 1) := dk_172 (dk_at dksX4_number_0 8 rfl rfl)
theorem dX4_number_9 : decode cX4_number 9 = .ok (.aload_n 0, 1) := dk_42 (dk_at dksX4_number_0 9 rfl rfl)
theorem dX4_number_10 : decode cX4_number 10 = .ok (.getfield 150, 3) := dk_180 0 150 (dk_at dksX4_number_0 10 rfl rfl)
theorem dX4_number_13 : decode cX4_number 13 = .ok (.iconst 2, 1) := dk_5 (dk_at dksX4_number_0 13 rfl rfl)
theorem dX4_number_14 : decode cX4_number 14 = .ok (.if_icmp .eq 11, 3) := dk_159 0 11 (dk_at dksX4_number_0 14 rfl rfl)
theorem dX4_number_17 : decode cX4_number 17 = .ok (.aload_n 0, 1) := dk_42 (dk_at dksX4_number_0 17 rfl rfl)
theorem dX4_number_18 : decode cX4_number 18 = .ok (.iconst 1, 1) := dk_4 (dk_at dksX4_number_0 18 rfl rfl)
theorem dX4_number_19 : decode cX4_number 19 = .ok (.invokevirtual 183, 3) := dk_182 0 183 (dk_at dksX4_number_0 19 rfl rfl)
theorem dX4_number_22 : decode cX4_number 22 = .ok (.goto 32, 3) := dk_167 0 32 (dk_at dksX4_number_1 0 rfl rfl)
theorem dX4_number_25 : decode cX4_number 25 = .ok (.aload_n 0, 1) := dk_42 (dk_at dksX4_number_1 3 rfl rfl)
theorem dX4_number_26 : decode cX4_number 26 = .ok (.getfield 160, 3) := dk_180 0 160 (dk_at dksX4_number_1 4 rfl rfl)
theorem dX4_number_29 : decode cX4_number 29 = .ok (.iconst 4, 1) := dk_7 (dk_at dksX4_number_1 7 rfl rfl)
theorem dX4_number_30 : decode cX4_number 30 = .ok (.if_icmp .gt 19, 3) := dk_163 0 19 (dk_at dksX4_number_1 8 rfl rfl)
theorem dX4_number_33 : decode cX4_number 33 = .ok (.aload_n 0, 1) := dk_42 (dk_at dksX4_number_1 11 rfl rfl)
theorem dX4_number_34 : decode cX4_number 34 = .ok (.getfield 144, 3) := dk_180 0 144 (dk_at dksX4_number_1 12 rfl rfl)
theorem dX4_number_37 : decode cX4_number 37 = .ok (.iload_n 1, 1) := dk_27 (dk_at dksX4_number_1 15 rfl rfl)
theorem dX4_number_38 : decode cX4_number 38 = .ok (.if_icmp .lt 11, 3) := dk_161 0 11 (dk_at dksX4_number_1 16 rfl rfl)
theorem dX4_number_41 : decode cX4_number 41 = .ok (.aload_n 0, 1) := dk_42 (dk_at dksX4_number_1 19 rfl rfl)
theorem dX4_number_42 : decode cX4_number 42 = .ok (.getfield 144, 3) := dk_180 0 144 (dk_at dksX4_number_1 20 rfl rfl)
theorem dX4_number_45 : decode cX4_number 45 = .ok (.iload_n 2, 1) := dk_28 (dk_at dksX4_number_1 23 rfl rfl)
theorem dX4_number_46 : decode cX4_number 46 = .ok (.if_icmp .le 8, 3) := dk_164 0 8 (dk_at dksX4_number_2 0 rfl rfl)
theorem dX4_number_49 : decode cX4_number 49 = .ok (.aload_n 0, 1) := dk_42 (dk_at dksX4_number_2 3 rfl rfl)
theorem dX4_number_50 : decode cX4_number 50 = .ok (.iconst 2, 1) := dk_5 (dk_at dksX4_number_2 4 rfl rfl)
theorem dX4_number_51 : decode cX4_number 51 = .ok (.invokevirtual 183, 3) := dk_182 0 183 (dk_at dksX4_number_2 5 rfl rfl)
theorem dX4_number_54 : decode cX4_number 54 = .ok (.aload_n 0, 1) := dk_42 (dk_at dksX4_number_2 8 rfl rfl)
theorem dX4_number_55 : decode cX4_number 55 = .ok (.getfield 144, 3) := dk_180 0 144 (dk_at dksX4_number_2 9 rfl rfl)
theorem dX4_number_58 : decode cX4_number 58 = .ok (.istore_n 3, 1) := dk_62 (dk_at dksX4_number_2 12 rfl rfl)
theorem dX4_number_59 : decode cX4_number 59 = .ok (.aload_n 0, 1) := dk_42 (dk_at dksX4_number_2 13 rfl rfl)
theorem dX4_number_60 : decode cX4_number 60 = .ok (.invokevirtual 176, 3) := dk_182 0 176 (dk_at dksX4_number_2 14 rfl rfl)
theorem dX4_number_63 : decode cX4_number 63 = .ok (.ifCond .eq 7, 3) := dk_153 0 7 (dk_at dksX4_number_2 17 rfl rfl)
theorem dX4_number_66 : decode cX4_number 66 = .ok (.aload_n 0, 1) := dk_42 (dk_at dksX4_number_2 20 rfl rfl)
theorem dX4_number_67 : decode cX4_number 67 = .ok (.invokevirtual 180, 3) := dk_182 0 180 (dk_at dksX4_number_2 21 rfl rfl)
theorem dX4_number_70 : decode cX4_number 70 = .ok (.iload_n 3, 1) := dk_29 (dk_at dksX4_number_3 0 rfl rfl)
theorem dX4_number_71 : decode cX4_number 71 = .ok (.ireturn, 1) := dk_172 (dk_at dksX4_number_3 1 rfl rfl)
abbrev cX4_isKnot : ByteArray := prog_12_method_37_code
def yX4_isKnot : MethodName := ⟨RX4, "isKnot", "()Z"⟩
def dkwX4_isKnot_1 : List UInt8 := [180, 0, 50, 27, 46, 42, 180, 0, 160, 160, 0, 5, 4, 172, 132, 1, 1, 167, 255, 217, 3, 172]
abbrev dktX4_isKnot_1 : List UInt8 := dkwX4_isKnot_1 ++ []
def dkwX4_isKnot_0 : List UInt8 := [3, 60, 27, 42, 180, 0, 243, 162, 0, 37, 42, 180, 0, 47, 27, 46, 42, 180, 0, 144, 160, 0, 18, 42]
abbrev dktX4_isKnot_0 : List UInt8 := dkwX4_isKnot_0 ++ dktX4_isKnot_1
theorem dksX4_isKnot_0 : cX4_isKnot.data.toList.drop 0 = dktX4_isKnot_0 := by decide +kernel
theorem dksX4_isKnot_1 : cX4_isKnot.data.toList.drop 24 = dktX4_isKnot_1 := dk_seg dksX4_isKnot_0 24 rfl rfl
theorem dX4_isKnot_0 : decode cX4_isKnot 0 = .ok (.iconst 0, 1) := dk_3 (dk_at dksX4_isKnot_0 0 rfl rfl)
theorem dX4_isKnot_1 : decode cX4_isKnot 1 = .ok (.istore_n 1, 1) := dk_60 (dk_at dksX4_isKnot_0 1 rfl rfl)
theorem dX4_isKnot_2 : decode cX4_isKnot 2 = .ok (.iload_n 1, 1) := dk_27 (dk_at dksX4_isKnot_0 2 rfl rfl)
theorem dX4_isKnot_3 : decode cX4_isKnot 3 = .ok (.aload_n 0, 1) := dk_42 (dk_at dksX4_isKnot_0 3 rfl rfl)
theorem dX4_isKnot_4 : decode cX4_isKnot 4 = .ok (.getfield 243, 3) := dk_180 0 243 (dk_at dksX4_isKnot_0 4 rfl rfl)
theorem dX4_isKnot_7 : decode cX4_isKnot 7 = .ok (.if_icmp .ge 37, 3) := dk_162 0 37 (dk_at dksX4_isKnot_0 7 rfl rfl)
theorem dX4_isKnot_10 : decode cX4_isKnot 10 = .ok (.aload_n 0, 1) := dk_42 (dk_at dksX4_isKnot_0 10 rfl rfl)
theorem dX4_isKnot_11 : decode cX4_isKnot 11 = .ok (.getfield 47, 3) := dk_180 0 47 (dk_at dksX4_isKnot_0 11 rfl rfl)
theorem dX4_isKnot_14 : decode cX4_isKnot 14 = .ok (.iload_n 1, 1) := dk_27 (dk_at dksX4_isKnot_0 14 rfl rfl)
theorem dX4_isKnot_15 : decode cX4_isKnot 15 = .ok (.iaload, 1) := dk_46 (dk_at dksX4_isKnot_0 15 rfl rfl)
theorem dX4_isKnot_16 : decode cX4_isKnot 16 = .ok (.aload_n 0, 1) := dk_42 (dk_at dksX4_isKnot_0 16 rfl rfl)
theorem dX4_isKnot_17 : decode cX4_isKnot 17 = .ok (.getfield 144, 3) := dk_180 0 144 (dk_at dksX4_isKnot_0 17 rfl rfl)
theorem dX4_isKnot_20 : decode cX4_isKnot 20 = .ok (.if_icmp .ne 18, 3) := dk_160 0 18 (dk_at dksX4_isKnot_0 20 rfl rfl)
theorem dX4_isKnot_23 : decode cX4_isKnot 23 = .ok (.aload_n 0, 1) := dk_42 (dk_at dksX4_isKnot_0 23 rfl rfl)
theorem dX4_isKnot_24 : decode cX4_isKnot 24 = .ok (.getfield 50, 3) := dk_180 0 50 (dk_at dksX4_isKnot_1 0 rfl rfl)
theorem dX4_isKnot_27 : decode cX4_isKnot 27 = .ok (.iload_n 1, 1) := dk_27 (dk_at dksX4_isKnot_1 3 rfl rfl)
theorem dX4_isKnot_28 : decode cX4_isKnot 28 = .ok (.iaload, 1) := dk_46 (dk_at dksX4_isKnot_1 4 rfl rfl)
theorem dX4_isKnot_29 : decode cX4_isKnot 29 = .ok (.aload_n 0, 1) := dk_42 (dk_at dksX4_isKnot_1 5 rfl rfl)
theorem dX4_isKnot_30 : decode cX4_isKnot 30 = .ok (.getfield 160, 3) := dk_180 0 160 (dk_at dksX4_isKnot_1 6 rfl rfl)
theorem dX4_isKnot_33 : decode cX4_isKnot 33 = .ok (.if_icmp .ne 5, 3) := dk_160 0 5 (dk_at dksX4_isKnot_1 9 rfl rfl)
theorem dX4_isKnot_36 : decode cX4_isKnot 36 = .ok (.iconst 1, 1) := dk_4 (dk_at dksX4_isKnot_1 12 rfl rfl)
theorem dX4_isKnot_37 : decode cX4_isKnot 37 = .ok (.ireturn, 1) := dk_172 (dk_at dksX4_isKnot_1 13 rfl rfl)
theorem dX4_isKnot_38 : decode cX4_isKnot 38 = .ok (.iinc 1 1, 3) := dk_132 1 1 (dk_at dksX4_isKnot_1 14 rfl rfl)
theorem dX4_isKnot_41 : decode cX4_isKnot 41 = .ok (.goto (-39), 3) := dk_167 255 217 (dk_at dksX4_isKnot_1 17 rfl rfl)
theorem dX4_isKnot_44 : decode cX4_isKnot 44 = .ok (.iconst 0, 1) := dk_3 (dk_at dksX4_isKnot_1 20 rfl rfl)
theorem dX4_isKnot_45 : decode cX4_isKnot 45 = .ok (.ireturn, 1) := dk_172 (dk_at dksX4_isKnot_1 21 rfl rfl)
abbrev cX4_readsKnots : ByteArray := prog_12_method_38_code
def yX4_readsKnots : MethodName := ⟨RX4, "readsKnots", "()V"⟩
def dkwX4_readsKnots_5 : List UInt8 := [180, 0, 150, 5, 160, 0, 7, 4, 167, 0, 4, 3, 60, 167, 255, 130, 177]
abbrev dktX4_readsKnots_5 : List UInt8 := dkwX4_readsKnots_5 ++ []
def dkwX4_readsKnots_4 : List UInt8 := [180, 0, 243, 42, 180, 0, 160, 79, 42, 89, 180, 0, 243, 4, 96, 181, 0, 243, 42, 182, 0, 180, 42]
abbrev dktX4_readsKnots_4 : List UInt8 := dkwX4_readsKnots_4 ++ dktX4_readsKnots_5
def dkwX4_readsKnots_3 : List UInt8 := [154, 0, 4, 177, 42, 180, 0, 47, 42, 180, 0, 243, 42, 180, 0, 144, 79, 42, 180, 0, 50, 42]
abbrev dktX4_readsKnots_3 : List UInt8 := dkwX4_readsKnots_3 ++ dktX4_readsKnots_4
def dkwX4_readsKnots_2 : List UInt8 := [5, 182, 0, 183, 167, 0, 15, 42, 182, 0, 246, 153, 0, 8, 42, 7, 182, 0, 183, 42, 182, 0, 176]
abbrev dktX4_readsKnots_2 : List UInt8 := dkwX4_readsKnots_2 ++ dktX4_readsKnots_3
def dkwX4_readsKnots_1 : List UInt8 := [182, 0, 183, 167, 0, 40, 42, 180, 0, 243, 16, 8, 159, 0, 11, 42, 180, 0, 160, 7, 164, 0, 11, 42]
abbrev dktX4_readsKnots_1 : List UInt8 := dkwX4_readsKnots_1 ++ dktX4_readsKnots_2
def dkwX4_readsKnots_0 : List UInt8 := [4, 60, 27, 153, 0, 128, 42, 182, 0, 176, 153, 0, 121, 42, 180, 0, 150, 5, 159, 0, 11, 42, 4]
abbrev dktX4_readsKnots_0 : List UInt8 := dkwX4_readsKnots_0 ++ dktX4_readsKnots_1
theorem dksX4_readsKnots_0 : cX4_readsKnots.data.toList.drop 0 = dktX4_readsKnots_0 := by decide +kernel
theorem dksX4_readsKnots_1 : cX4_readsKnots.data.toList.drop 23 = dktX4_readsKnots_1 := dk_seg dksX4_readsKnots_0 23 rfl rfl
theorem dksX4_readsKnots_2 : cX4_readsKnots.data.toList.drop 47 = dktX4_readsKnots_2 := dk_seg dksX4_readsKnots_1 24 rfl rfl
theorem dksX4_readsKnots_3 : cX4_readsKnots.data.toList.drop 70 = dktX4_readsKnots_3 := dk_seg dksX4_readsKnots_2 23 rfl rfl
theorem dksX4_readsKnots_4 : cX4_readsKnots.data.toList.drop 92 = dktX4_readsKnots_4 := dk_seg dksX4_readsKnots_3 22 rfl rfl
theorem dksX4_readsKnots_5 : cX4_readsKnots.data.toList.drop 115 = dktX4_readsKnots_5 := dk_seg dksX4_readsKnots_4 23 rfl rfl
theorem dX4_readsKnots_0 : decode cX4_readsKnots 0 = .ok (.iconst 1, 1) := dk_4 (dk_at dksX4_readsKnots_0 0 rfl rfl)
theorem dX4_readsKnots_1 : decode cX4_readsKnots 1 = .ok (.istore_n 1, 1) := dk_60 (dk_at dksX4_readsKnots_0 1 rfl rfl)
theorem dX4_readsKnots_2 : decode cX4_readsKnots 2 = .ok (.iload_n 1, 1) := dk_27 (dk_at dksX4_readsKnots_0 2 rfl rfl)
theorem dX4_readsKnots_3 : decode cX4_readsKnots 3 = .ok (.ifCond .eq 128, 3) := dk_153 0 128 (dk_at dksX4_readsKnots_0 3 rfl rfl)
theorem dX4_readsKnots_6 : decode cX4_readsKnots 6 = .ok (.aload_n 0, 1) := dk_42 (dk_at dksX4_readsKnots_0 6 rfl rfl)
theorem dX4_readsKnots_7 : decode cX4_readsKnots 7 = .ok (.invokevirtual 176, 3) := dk_182 0 176 (dk_at dksX4_readsKnots_0 7 rfl rfl)
theorem dX4_readsKnots_10 : decode cX4_readsKnots 10 = .ok (.ifCond .eq 121, 3) := dk_153 0 121 (dk_at dksX4_readsKnots_0 10 rfl rfl)
theorem dX4_readsKnots_13 : decode cX4_readsKnots 13 = .ok (.aload_n 0, 1) := dk_42 (dk_at dksX4_readsKnots_0 13 rfl rfl)
theorem dX4_readsKnots_14 : decode cX4_readsKnots 14 = .ok (.getfield 150, 3) := dk_180 0 150 (dk_at dksX4_readsKnots_0 14 rfl rfl)
theorem dX4_readsKnots_17 : decode cX4_readsKnots 17 = .ok (.iconst 2, 1) := dk_5 (dk_at dksX4_readsKnots_0 17 rfl rfl)
theorem dX4_readsKnots_18 : decode cX4_readsKnots 18 = .ok (.if_icmp .eq 11, 3) := dk_159 0 11 (dk_at dksX4_readsKnots_0 18 rfl rfl)
theorem dX4_readsKnots_21 : decode cX4_readsKnots 21 = .ok (.aload_n 0, 1) := dk_42 (dk_at dksX4_readsKnots_0 21 rfl rfl)
theorem dX4_readsKnots_22 : decode cX4_readsKnots 22 = .ok (.iconst 1, 1) := dk_4 (dk_at dksX4_readsKnots_0 22 rfl rfl)
theorem dX4_readsKnots_23 : decode cX4_readsKnots 23 = .ok (.invokevirtual 183, 3) := dk_182 0 183 (dk_at dksX4_readsKnots_1 0 rfl rfl)
theorem dX4_readsKnots_26 : decode cX4_readsKnots 26 = .ok (.goto 40, 3) := dk_167 0 40 (dk_at dksX4_readsKnots_1 3 rfl rfl)
theorem dX4_readsKnots_29 : decode cX4_readsKnots 29 = .ok (.aload_n 0, 1) := dk_42 (dk_at dksX4_readsKnots_1 6 rfl rfl)
theorem dX4_readsKnots_30 : decode cX4_readsKnots 30 = .ok (.getfield 243, 3) := dk_180 0 243 (dk_at dksX4_readsKnots_1 7 rfl rfl)
theorem dX4_readsKnots_33 : decode cX4_readsKnots 33 = .ok (.bipush 8, 2) := dk_16 8 (dk_at dksX4_readsKnots_1 10 rfl rfl)
theorem dX4_readsKnots_35 : decode cX4_readsKnots 35 = .ok (.if_icmp .eq 11, 3) := dk_159 0 11 (dk_at dksX4_readsKnots_1 12 rfl rfl)
theorem dX4_readsKnots_38 : decode cX4_readsKnots 38 = .ok (.aload_n 0, 1) := dk_42 (dk_at dksX4_readsKnots_1 15 rfl rfl)
theorem dX4_readsKnots_39 : decode cX4_readsKnots 39 = .ok (.getfield 160, 3) := dk_180 0 160 (dk_at dksX4_readsKnots_1 16 rfl rfl)
theorem dX4_readsKnots_42 : decode cX4_readsKnots 42 = .ok (.iconst 4, 1) := dk_7 (dk_at dksX4_readsKnots_1 19 rfl rfl)
theorem dX4_readsKnots_43 : decode cX4_readsKnots 43 = .ok (.if_icmp .le 11, 3) := dk_164 0 11 (dk_at dksX4_readsKnots_1 20 rfl rfl)
theorem dX4_readsKnots_46 : decode cX4_readsKnots 46 = .ok (.aload_n 0, 1) := dk_42 (dk_at dksX4_readsKnots_1 23 rfl rfl)
theorem dX4_readsKnots_47 : decode cX4_readsKnots 47 = .ok (.iconst 2, 1) := dk_5 (dk_at dksX4_readsKnots_2 0 rfl rfl)
theorem dX4_readsKnots_48 : decode cX4_readsKnots 48 = .ok (.invokevirtual 183, 3) := dk_182 0 183 (dk_at dksX4_readsKnots_2 1 rfl rfl)
theorem dX4_readsKnots_51 : decode cX4_readsKnots 51 = .ok (.goto 15, 3) := dk_167 0 15 (dk_at dksX4_readsKnots_2 4 rfl rfl)
theorem dX4_readsKnots_54 : decode cX4_readsKnots 54 = .ok (.aload_n 0, 1) := dk_42 (dk_at dksX4_readsKnots_2 7 rfl rfl)
theorem dX4_readsKnots_55 : decode cX4_readsKnots 55 = .ok (.invokevirtual 246, 3) := dk_182 0 246 (dk_at dksX4_readsKnots_2 8 rfl rfl)
theorem dX4_readsKnots_58 : decode cX4_readsKnots 58 = .ok (.ifCond .eq 8, 3) := dk_153 0 8 (dk_at dksX4_readsKnots_2 11 rfl rfl)
theorem dX4_readsKnots_61 : decode cX4_readsKnots 61 = .ok (.aload_n 0, 1) := dk_42 (dk_at dksX4_readsKnots_2 14 rfl rfl)
theorem dX4_readsKnots_62 : decode cX4_readsKnots 62 = .ok (.iconst 4, 1) := dk_7 (dk_at dksX4_readsKnots_2 15 rfl rfl)
theorem dX4_readsKnots_63 : decode cX4_readsKnots 63 = .ok (.invokevirtual 183, 3) := dk_182 0 183 (dk_at dksX4_readsKnots_2 16 rfl rfl)
theorem dX4_readsKnots_66 : decode cX4_readsKnots 66 = .ok (.aload_n 0, 1) := dk_42 (dk_at dksX4_readsKnots_2 19 rfl rfl)
theorem dX4_readsKnots_67 : decode cX4_readsKnots 67 = .ok (.invokevirtual 176, 3) := dk_182 0 176 (dk_at dksX4_readsKnots_2 20 rfl rfl)
theorem dX4_readsKnots_70 : decode cX4_readsKnots 70 = .ok (.ifCond .ne 4, 3) := dk_154 0 4 (dk_at dksX4_readsKnots_3 0 rfl rfl)
theorem dX4_readsKnots_73 : decode cX4_readsKnots 73 = .ok (.return_, 1) := dk_177 (dk_at dksX4_readsKnots_3 3 rfl rfl)
theorem dX4_readsKnots_74 : decode cX4_readsKnots 74 = .ok (.aload_n 0, 1) := dk_42 (dk_at dksX4_readsKnots_3 4 rfl rfl)
theorem dX4_readsKnots_75 : decode cX4_readsKnots 75 = .ok (.getfield 47, 3) := dk_180 0 47 (dk_at dksX4_readsKnots_3 5 rfl rfl)
theorem dX4_readsKnots_78 : decode cX4_readsKnots 78 = .ok (.aload_n 0, 1) := dk_42 (dk_at dksX4_readsKnots_3 8 rfl rfl)
theorem dX4_readsKnots_79 : decode cX4_readsKnots 79 = .ok (.getfield 243, 3) := dk_180 0 243 (dk_at dksX4_readsKnots_3 9 rfl rfl)
theorem dX4_readsKnots_82 : decode cX4_readsKnots 82 = .ok (.aload_n 0, 1) := dk_42 (dk_at dksX4_readsKnots_3 12 rfl rfl)
theorem dX4_readsKnots_83 : decode cX4_readsKnots 83 = .ok (.getfield 144, 3) := dk_180 0 144 (dk_at dksX4_readsKnots_3 13 rfl rfl)
theorem dX4_readsKnots_86 : decode cX4_readsKnots 86 = .ok (.iastore, 1) := dk_79 (dk_at dksX4_readsKnots_3 16 rfl rfl)
theorem dX4_readsKnots_87 : decode cX4_readsKnots 87 = .ok (.aload_n 0, 1) := dk_42 (dk_at dksX4_readsKnots_3 17 rfl rfl)
theorem dX4_readsKnots_88 : decode cX4_readsKnots 88 = .ok (.getfield 50, 3) := dk_180 0 50 (dk_at dksX4_readsKnots_3 18 rfl rfl)
theorem dX4_readsKnots_91 : decode cX4_readsKnots 91 = .ok (.aload_n 0, 1) := dk_42 (dk_at dksX4_readsKnots_3 21 rfl rfl)
theorem dX4_readsKnots_92 : decode cX4_readsKnots 92 = .ok (.getfield 243, 3) := dk_180 0 243 (dk_at dksX4_readsKnots_4 0 rfl rfl)
theorem dX4_readsKnots_95 : decode cX4_readsKnots 95 = .ok (.aload_n 0, 1) := dk_42 (dk_at dksX4_readsKnots_4 3 rfl rfl)
theorem dX4_readsKnots_96 : decode cX4_readsKnots 96 = .ok (.getfield 160, 3) := dk_180 0 160 (dk_at dksX4_readsKnots_4 4 rfl rfl)
theorem dX4_readsKnots_99 : decode cX4_readsKnots 99 = .ok (.iastore, 1) := dk_79 (dk_at dksX4_readsKnots_4 7 rfl rfl)
theorem dX4_readsKnots_100 : decode cX4_readsKnots 100 = .ok (.aload_n 0, 1) := dk_42 (dk_at dksX4_readsKnots_4 8 rfl rfl)
theorem dX4_readsKnots_101 : decode cX4_readsKnots 101 = .ok (.dup, 1) := dk_89 (dk_at dksX4_readsKnots_4 9 rfl rfl)
theorem dX4_readsKnots_102 : decode cX4_readsKnots 102 = .ok (.getfield 243, 3) := dk_180 0 243 (dk_at dksX4_readsKnots_4 10 rfl rfl)
theorem dX4_readsKnots_105 : decode cX4_readsKnots 105 = .ok (.iconst 1, 1) := dk_4 (dk_at dksX4_readsKnots_4 13 rfl rfl)
theorem dX4_readsKnots_106 : decode cX4_readsKnots 106 = .ok (.iadd, 1) := dk_96 (dk_at dksX4_readsKnots_4 14 rfl rfl)
theorem dX4_readsKnots_107 : decode cX4_readsKnots 107 = .ok (.putfield 243, 3) := dk_181 0 243 (dk_at dksX4_readsKnots_4 15 rfl rfl)
theorem dX4_readsKnots_110 : decode cX4_readsKnots 110 = .ok (.aload_n 0, 1) := dk_42 (dk_at dksX4_readsKnots_4 18 rfl rfl)
theorem dX4_readsKnots_111 : decode cX4_readsKnots 111 = .ok (.invokevirtual 180, 3) := dk_182 0 180 (dk_at dksX4_readsKnots_4 19 rfl rfl)
theorem dX4_readsKnots_114 : decode cX4_readsKnots 114 = .ok (.aload_n 0, 1) := dk_42 (dk_at dksX4_readsKnots_4 22 rfl rfl)
theorem dX4_readsKnots_115 : decode cX4_readsKnots 115 = .ok (.getfield 150, 3) := dk_180 0 150 (dk_at dksX4_readsKnots_5 0 rfl rfl)
theorem dX4_readsKnots_118 : decode cX4_readsKnots 118 = .ok (.iconst 2, 1) := dk_5 (dk_at dksX4_readsKnots_5 3 rfl rfl)
theorem dX4_readsKnots_119 : decode cX4_readsKnots 119 = .ok (.if_icmp .ne 7, 3) := dk_160 0 7 (dk_at dksX4_readsKnots_5 4 rfl rfl)
theorem dX4_readsKnots_122 : decode cX4_readsKnots 122 = .ok (.iconst 1, 1) := dk_4 (dk_at dksX4_readsKnots_5 7 rfl rfl)
theorem dX4_readsKnots_123 : decode cX4_readsKnots 123 = .ok (.goto 4, 3) := dk_167 0 4 (dk_at dksX4_readsKnots_5 8 rfl rfl)
theorem dX4_readsKnots_126 : decode cX4_readsKnots 126 = .ok (.iconst 0, 1) := dk_3 (dk_at dksX4_readsKnots_5 11 rfl rfl)
theorem dX4_readsKnots_127 : decode cX4_readsKnots 127 = .ok (.istore_n 1, 1) := dk_60 (dk_at dksX4_readsKnots_5 12 rfl rfl)
theorem dX4_readsKnots_128 : decode cX4_readsKnots 128 = .ok (.goto (-126), 3) := dk_167 255 130 (dk_at dksX4_readsKnots_5 13 rfl rfl)
theorem dX4_readsKnots_131 : decode cX4_readsKnots 131 = .ok (.return_, 1) := dk_177 (dk_at dksX4_readsKnots_5 16 rfl rfl)
abbrev cX4_readsStretch : ByteArray := prog_12_method_35_code
def yX4_readsStretch : MethodName := ⟨RX4, "readsStretch", "()V"⟩
def dkwX4_readsStretch_2 : List UInt8 := [182, 0, 236, 79, 42, 182, 0, 176, 153, 0, 13, 42, 89, 180, 0, 233, 4, 96, 181, 0, 233, 177]
abbrev dktX4_readsStretch_2 : List UInt8 := dkwX4_readsStretch_2 ++ []
def dkwX4_readsStretch_1 : List UInt8 := [16, 13, 27, 96, 42, 3, 16, 99, 182, 0, 236, 79, 42, 180, 0, 53, 16, 25, 27, 96, 42, 3, 5]
abbrev dktX4_readsStretch_1 : List UInt8 := dkwX4_readsStretch_1 ++ dktX4_readsStretch_2
def dkwX4_readsStretch_0 : List UInt8 := [42, 180, 0, 233, 60, 42, 180, 0, 53, 4, 27, 96, 42, 3, 16, 99, 182, 0, 236, 79, 42, 180, 0, 53]
abbrev dktX4_readsStretch_0 : List UInt8 := dkwX4_readsStretch_0 ++ dktX4_readsStretch_1
theorem dksX4_readsStretch_0 : cX4_readsStretch.data.toList.drop 0 = dktX4_readsStretch_0 := by decide +kernel
theorem dksX4_readsStretch_1 : cX4_readsStretch.data.toList.drop 24 = dktX4_readsStretch_1 := dk_seg dksX4_readsStretch_0 24 rfl rfl
theorem dksX4_readsStretch_2 : cX4_readsStretch.data.toList.drop 47 = dktX4_readsStretch_2 := dk_seg dksX4_readsStretch_1 23 rfl rfl
theorem dX4_readsStretch_0 : decode cX4_readsStretch 0 = .ok (.aload_n 0, 1) := dk_42 (dk_at dksX4_readsStretch_0 0 rfl rfl)
theorem dX4_readsStretch_1 : decode cX4_readsStretch 1 = .ok (.getfield 233, 3) := dk_180 0 233 (dk_at dksX4_readsStretch_0 1 rfl rfl)
theorem dX4_readsStretch_4 : decode cX4_readsStretch 4 = .ok (.istore_n 1, 1) := dk_60 (dk_at dksX4_readsStretch_0 4 rfl rfl)
theorem dX4_readsStretch_5 : decode cX4_readsStretch 5 = .ok (.aload_n 0, 1) := dk_42 (dk_at dksX4_readsStretch_0 5 rfl rfl)
theorem dX4_readsStretch_6 : decode cX4_readsStretch 6 = .ok (.getfield 53, 3) := dk_180 0 53 (dk_at dksX4_readsStretch_0 6 rfl rfl)
theorem dX4_readsStretch_9 : decode cX4_readsStretch 9 = .ok (.iconst 1, 1) := dk_4 (dk_at dksX4_readsStretch_0 9 rfl rfl)
theorem dX4_readsStretch_10 : decode cX4_readsStretch 10 = .ok (.iload_n 1, 1) := dk_27 (dk_at dksX4_readsStretch_0 10 rfl rfl)
theorem dX4_readsStretch_11 : decode cX4_readsStretch 11 = .ok (.iadd, 1) := dk_96 (dk_at dksX4_readsStretch_0 11 rfl rfl)
theorem dX4_readsStretch_12 : decode cX4_readsStretch 12 = .ok (.aload_n 0, 1) := dk_42 (dk_at dksX4_readsStretch_0 12 rfl rfl)
theorem dX4_readsStretch_13 : decode cX4_readsStretch 13 = .ok (.iconst 0, 1) := dk_3 (dk_at dksX4_readsStretch_0 13 rfl rfl)
theorem dX4_readsStretch_14 : decode cX4_readsStretch 14 = .ok (.bipush 99, 2) := dk_16 99 (dk_at dksX4_readsStretch_0 14 rfl rfl)
theorem dX4_readsStretch_16 : decode cX4_readsStretch 16 = .ok (.invokevirtual 236, 3) := dk_182 0 236 (dk_at dksX4_readsStretch_0 16 rfl rfl)
theorem dX4_readsStretch_19 : decode cX4_readsStretch 19 = .ok (.iastore, 1) := dk_79 (dk_at dksX4_readsStretch_0 19 rfl rfl)
theorem dX4_readsStretch_20 : decode cX4_readsStretch 20 = .ok (.aload_n 0, 1) := dk_42 (dk_at dksX4_readsStretch_0 20 rfl rfl)
theorem dX4_readsStretch_21 : decode cX4_readsStretch 21 = .ok (.getfield 53, 3) := dk_180 0 53 (dk_at dksX4_readsStretch_0 21 rfl rfl)
theorem dX4_readsStretch_24 : decode cX4_readsStretch 24 = .ok (.bipush 13, 2) := dk_16 13 (dk_at dksX4_readsStretch_1 0 rfl rfl)
theorem dX4_readsStretch_26 : decode cX4_readsStretch 26 = .ok (.iload_n 1, 1) := dk_27 (dk_at dksX4_readsStretch_1 2 rfl rfl)
theorem dX4_readsStretch_27 : decode cX4_readsStretch 27 = .ok (.iadd, 1) := dk_96 (dk_at dksX4_readsStretch_1 3 rfl rfl)
theorem dX4_readsStretch_28 : decode cX4_readsStretch 28 = .ok (.aload_n 0, 1) := dk_42 (dk_at dksX4_readsStretch_1 4 rfl rfl)
theorem dX4_readsStretch_29 : decode cX4_readsStretch 29 = .ok (.iconst 0, 1) := dk_3 (dk_at dksX4_readsStretch_1 5 rfl rfl)
theorem dX4_readsStretch_30 : decode cX4_readsStretch 30 = .ok (.bipush 99, 2) := dk_16 99 (dk_at dksX4_readsStretch_1 6 rfl rfl)
theorem dX4_readsStretch_32 : decode cX4_readsStretch 32 = .ok (.invokevirtual 236, 3) := dk_182 0 236 (dk_at dksX4_readsStretch_1 8 rfl rfl)
theorem dX4_readsStretch_35 : decode cX4_readsStretch 35 = .ok (.iastore, 1) := dk_79 (dk_at dksX4_readsStretch_1 11 rfl rfl)
theorem dX4_readsStretch_36 : decode cX4_readsStretch 36 = .ok (.aload_n 0, 1) := dk_42 (dk_at dksX4_readsStretch_1 12 rfl rfl)
theorem dX4_readsStretch_37 : decode cX4_readsStretch 37 = .ok (.getfield 53, 3) := dk_180 0 53 (dk_at dksX4_readsStretch_1 13 rfl rfl)
theorem dX4_readsStretch_40 : decode cX4_readsStretch 40 = .ok (.bipush 25, 2) := dk_16 25 (dk_at dksX4_readsStretch_1 16 rfl rfl)
theorem dX4_readsStretch_42 : decode cX4_readsStretch 42 = .ok (.iload_n 1, 1) := dk_27 (dk_at dksX4_readsStretch_1 18 rfl rfl)
theorem dX4_readsStretch_43 : decode cX4_readsStretch 43 = .ok (.iadd, 1) := dk_96 (dk_at dksX4_readsStretch_1 19 rfl rfl)
theorem dX4_readsStretch_44 : decode cX4_readsStretch 44 = .ok (.aload_n 0, 1) := dk_42 (dk_at dksX4_readsStretch_1 20 rfl rfl)
theorem dX4_readsStretch_45 : decode cX4_readsStretch 45 = .ok (.iconst 0, 1) := dk_3 (dk_at dksX4_readsStretch_1 21 rfl rfl)
theorem dX4_readsStretch_46 : decode cX4_readsStretch 46 = .ok (.iconst 2, 1) := dk_5 (dk_at dksX4_readsStretch_1 22 rfl rfl)
theorem dX4_readsStretch_47 : decode cX4_readsStretch 47 = .ok (.invokevirtual 236, 3) := dk_182 0 236 (dk_at dksX4_readsStretch_2 0 rfl rfl)
theorem dX4_readsStretch_50 : decode cX4_readsStretch 50 = .ok (.iastore, 1) := dk_79 (dk_at dksX4_readsStretch_2 3 rfl rfl)
theorem dX4_readsStretch_51 : decode cX4_readsStretch 51 = .ok (.aload_n 0, 1) := dk_42 (dk_at dksX4_readsStretch_2 4 rfl rfl)
theorem dX4_readsStretch_52 : decode cX4_readsStretch 52 = .ok (.invokevirtual 176, 3) := dk_182 0 176 (dk_at dksX4_readsStretch_2 5 rfl rfl)
theorem dX4_readsStretch_55 : decode cX4_readsStretch 55 = .ok (.ifCond .eq 13, 3) := dk_153 0 13 (dk_at dksX4_readsStretch_2 8 rfl rfl)
theorem dX4_readsStretch_58 : decode cX4_readsStretch 58 = .ok (.aload_n 0, 1) := dk_42 (dk_at dksX4_readsStretch_2 11 rfl rfl)
theorem dX4_readsStretch_59 : decode cX4_readsStretch 59 = .ok (.dup, 1) := dk_89 (dk_at dksX4_readsStretch_2 12 rfl rfl)
theorem dX4_readsStretch_60 : decode cX4_readsStretch 60 = .ok (.getfield 233, 3) := dk_180 0 233 (dk_at dksX4_readsStretch_2 13 rfl rfl)
theorem dX4_readsStretch_63 : decode cX4_readsStretch 63 = .ok (.iconst 1, 1) := dk_4 (dk_at dksX4_readsStretch_2 16 rfl rfl)
theorem dX4_readsStretch_64 : decode cX4_readsStretch 64 = .ok (.iadd, 1) := dk_96 (dk_at dksX4_readsStretch_2 17 rfl rfl)
theorem dX4_readsStretch_65 : decode cX4_readsStretch 65 = .ok (.putfield 233, 3) := dk_181 0 233 (dk_at dksX4_readsStretch_2 18 rfl rfl)
theorem dX4_readsStretch_68 : decode cX4_readsStretch 68 = .ok (.return_, 1) := dk_177 (dk_at dksX4_readsStretch_2 21 rfl rfl)
abbrev cX4_readsWoman : ByteArray := prog_12_method_36_code
def yX4_readsWoman : MethodName := ⟨RX4, "readsWoman", "()V"⟩
def dkwX4_readsWoman_5 : List UInt8 := [182, 0, 176, 153, 0, 13, 42, 89, 180, 0, 240, 4, 96, 181, 0, 240, 177]
abbrev dktX4_readsWoman_5 : List UInt8 := dkwX4_readsWoman_5 ++ []
def dkwX4_readsWoman_4 : List UInt8 := [79, 42, 182, 0, 180, 42, 180, 0, 53, 16, 43, 27, 96, 42, 3, 16, 99, 182, 0, 236, 79, 42]
abbrev dktX4_readsWoman_4 : List UInt8 := dkwX4_readsWoman_4 ++ dktX4_readsWoman_5
def dkwX4_readsWoman_3 : List UInt8 := [6, 182, 0, 183, 42, 182, 0, 176, 154, 0, 4, 177, 42, 180, 0, 53, 16, 37, 27, 96, 42, 180, 0, 144]
abbrev dktX4_readsWoman_3 : List UInt8 := dkwX4_readsWoman_3 ++ dktX4_readsWoman_4
def dkwX4_readsWoman_2 : List UInt8 := [7, 164, 0, 11, 42, 5, 182, 0, 183, 167, 0, 19, 42, 180, 0, 144, 42, 180, 0, 233, 161, 0, 8, 42]
abbrev dktX4_readsWoman_2 : List UInt8 := dkwX4_readsWoman_2 ++ dktX4_readsWoman_3
def dkwX4_readsWoman_1 : List UInt8 := [154, 0, 4, 177, 42, 180, 0, 150, 5, 159, 0, 11, 42, 4, 182, 0, 183, 167, 0, 35, 42, 180, 0, 160]
abbrev dktX4_readsWoman_1 : List UInt8 := dkwX4_readsWoman_1 ++ dktX4_readsWoman_2
def dkwX4_readsWoman_0 : List UInt8 := [42, 180, 0, 240, 60, 42, 180, 0, 44, 27, 42, 3, 16, 9, 182, 0, 236, 79, 42, 182, 0, 176]
abbrev dktX4_readsWoman_0 : List UInt8 := dkwX4_readsWoman_0 ++ dktX4_readsWoman_1
theorem dksX4_readsWoman_0 : cX4_readsWoman.data.toList.drop 0 = dktX4_readsWoman_0 := by decide +kernel
theorem dksX4_readsWoman_1 : cX4_readsWoman.data.toList.drop 22 = dktX4_readsWoman_1 := dk_seg dksX4_readsWoman_0 22 rfl rfl
theorem dksX4_readsWoman_2 : cX4_readsWoman.data.toList.drop 46 = dktX4_readsWoman_2 := dk_seg dksX4_readsWoman_1 24 rfl rfl
theorem dksX4_readsWoman_3 : cX4_readsWoman.data.toList.drop 70 = dktX4_readsWoman_3 := dk_seg dksX4_readsWoman_2 24 rfl rfl
theorem dksX4_readsWoman_4 : cX4_readsWoman.data.toList.drop 94 = dktX4_readsWoman_4 := dk_seg dksX4_readsWoman_3 24 rfl rfl
theorem dksX4_readsWoman_5 : cX4_readsWoman.data.toList.drop 116 = dktX4_readsWoman_5 := dk_seg dksX4_readsWoman_4 22 rfl rfl
theorem dX4_readsWoman_0 : decode cX4_readsWoman 0 = .ok (.aload_n 0, 1) := dk_42 (dk_at dksX4_readsWoman_0 0 rfl rfl)
theorem dX4_readsWoman_1 : decode cX4_readsWoman 1 = .ok (.getfield 240, 3) := dk_180 0 240 (dk_at dksX4_readsWoman_0 1 rfl rfl)
theorem dX4_readsWoman_4 : decode cX4_readsWoman 4 = .ok (.istore_n 1, 1) := dk_60 (dk_at dksX4_readsWoman_0 4 rfl rfl)
theorem dX4_readsWoman_5 : decode cX4_readsWoman 5 = .ok (.aload_n 0, 1) := dk_42 (dk_at dksX4_readsWoman_0 5 rfl rfl)
theorem dX4_readsWoman_6 : decode cX4_readsWoman 6 = .ok (.getfield 44, 3) := dk_180 0 44 (dk_at dksX4_readsWoman_0 6 rfl rfl)
theorem dX4_readsWoman_9 : decode cX4_readsWoman 9 = .ok (.iload_n 1, 1) := dk_27 (dk_at dksX4_readsWoman_0 9 rfl rfl)
theorem dX4_readsWoman_10 : decode cX4_readsWoman 10 = .ok (.aload_n 0, 1) := dk_42 (dk_at dksX4_readsWoman_0 10 rfl rfl)
theorem dX4_readsWoman_11 : decode cX4_readsWoman 11 = .ok (.iconst 0, 1) := dk_3 (dk_at dksX4_readsWoman_0 11 rfl rfl)
theorem dX4_readsWoman_12 : decode cX4_readsWoman 12 = .ok (.bipush 9, 2) := dk_16 9 (dk_at dksX4_readsWoman_0 12 rfl rfl)
theorem dX4_readsWoman_14 : decode cX4_readsWoman 14 = .ok (.invokevirtual 236, 3) := dk_182 0 236 (dk_at dksX4_readsWoman_0 14 rfl rfl)
theorem dX4_readsWoman_17 : decode cX4_readsWoman 17 = .ok (.iastore, 1) := dk_79 (dk_at dksX4_readsWoman_0 17 rfl rfl)
theorem dX4_readsWoman_18 : decode cX4_readsWoman 18 = .ok (.aload_n 0, 1) := dk_42 (dk_at dksX4_readsWoman_0 18 rfl rfl)
theorem dX4_readsWoman_19 : decode cX4_readsWoman 19 = .ok (.invokevirtual 176, 3) := dk_182 0 176 (dk_at dksX4_readsWoman_0 19 rfl rfl)
theorem dX4_readsWoman_22 : decode cX4_readsWoman 22 = .ok (.ifCond .ne 4, 3) := dk_154 0 4 (dk_at dksX4_readsWoman_1 0 rfl rfl)
theorem dX4_readsWoman_25 : decode cX4_readsWoman 25 = .ok (.return_, 1) := dk_177 (dk_at dksX4_readsWoman_1 3 rfl rfl)
theorem dX4_readsWoman_26 : decode cX4_readsWoman 26 = .ok (.aload_n 0, 1) := dk_42 (dk_at dksX4_readsWoman_1 4 rfl rfl)
theorem dX4_readsWoman_27 : decode cX4_readsWoman 27 = .ok (.getfield 150, 3) := dk_180 0 150 (dk_at dksX4_readsWoman_1 5 rfl rfl)
theorem dX4_readsWoman_30 : decode cX4_readsWoman 30 = .ok (.iconst 2, 1) := dk_5 (dk_at dksX4_readsWoman_1 8 rfl rfl)
theorem dX4_readsWoman_31 : decode cX4_readsWoman 31 = .ok (.if_icmp .eq 11, 3) := dk_159 0 11 (dk_at dksX4_readsWoman_1 9 rfl rfl)
theorem dX4_readsWoman_34 : decode cX4_readsWoman 34 = .ok (.aload_n 0, 1) := dk_42 (dk_at dksX4_readsWoman_1 12 rfl rfl)
theorem dX4_readsWoman_35 : decode cX4_readsWoman 35 = .ok (.iconst 1, 1) := dk_4 (dk_at dksX4_readsWoman_1 13 rfl rfl)
theorem dX4_readsWoman_36 : decode cX4_readsWoman 36 = .ok (.invokevirtual 183, 3) := dk_182 0 183 (dk_at dksX4_readsWoman_1 14 rfl rfl)
theorem dX4_readsWoman_39 : decode cX4_readsWoman 39 = .ok (.goto 35, 3) := dk_167 0 35 (dk_at dksX4_readsWoman_1 17 rfl rfl)
theorem dX4_readsWoman_42 : decode cX4_readsWoman 42 = .ok (.aload_n 0, 1) := dk_42 (dk_at dksX4_readsWoman_1 20 rfl rfl)
theorem dX4_readsWoman_43 : decode cX4_readsWoman 43 = .ok (.getfield 160, 3) := dk_180 0 160 (dk_at dksX4_readsWoman_1 21 rfl rfl)
theorem dX4_readsWoman_46 : decode cX4_readsWoman 46 = .ok (.iconst 4, 1) := dk_7 (dk_at dksX4_readsWoman_2 0 rfl rfl)
theorem dX4_readsWoman_47 : decode cX4_readsWoman 47 = .ok (.if_icmp .le 11, 3) := dk_164 0 11 (dk_at dksX4_readsWoman_2 1 rfl rfl)
theorem dX4_readsWoman_50 : decode cX4_readsWoman 50 = .ok (.aload_n 0, 1) := dk_42 (dk_at dksX4_readsWoman_2 4 rfl rfl)
theorem dX4_readsWoman_51 : decode cX4_readsWoman 51 = .ok (.iconst 2, 1) := dk_5 (dk_at dksX4_readsWoman_2 5 rfl rfl)
theorem dX4_readsWoman_52 : decode cX4_readsWoman 52 = .ok (.invokevirtual 183, 3) := dk_182 0 183 (dk_at dksX4_readsWoman_2 6 rfl rfl)
theorem dX4_readsWoman_55 : decode cX4_readsWoman 55 = .ok (.goto 19, 3) := dk_167 0 19 (dk_at dksX4_readsWoman_2 9 rfl rfl)
theorem dX4_readsWoman_58 : decode cX4_readsWoman 58 = .ok (.aload_n 0, 1) := dk_42 (dk_at dksX4_readsWoman_2 12 rfl rfl)
theorem dX4_readsWoman_59 : decode cX4_readsWoman 59 = .ok (.getfield 144, 3) := dk_180 0 144 (dk_at dksX4_readsWoman_2 13 rfl rfl)
theorem dX4_readsWoman_62 : decode cX4_readsWoman 62 = .ok (.aload_n 0, 1) := dk_42 (dk_at dksX4_readsWoman_2 16 rfl rfl)
theorem dX4_readsWoman_63 : decode cX4_readsWoman 63 = .ok (.getfield 233, 3) := dk_180 0 233 (dk_at dksX4_readsWoman_2 17 rfl rfl)
theorem dX4_readsWoman_66 : decode cX4_readsWoman 66 = .ok (.if_icmp .lt 8, 3) := dk_161 0 8 (dk_at dksX4_readsWoman_2 20 rfl rfl)
theorem dX4_readsWoman_69 : decode cX4_readsWoman 69 = .ok (.aload_n 0, 1) := dk_42 (dk_at dksX4_readsWoman_2 23 rfl rfl)
theorem dX4_readsWoman_70 : decode cX4_readsWoman 70 = .ok (.iconst 3, 1) := dk_6 (dk_at dksX4_readsWoman_3 0 rfl rfl)
theorem dX4_readsWoman_71 : decode cX4_readsWoman 71 = .ok (.invokevirtual 183, 3) := dk_182 0 183 (dk_at dksX4_readsWoman_3 1 rfl rfl)
theorem dX4_readsWoman_74 : decode cX4_readsWoman 74 = .ok (.aload_n 0, 1) := dk_42 (dk_at dksX4_readsWoman_3 4 rfl rfl)
theorem dX4_readsWoman_75 : decode cX4_readsWoman 75 = .ok (.invokevirtual 176, 3) := dk_182 0 176 (dk_at dksX4_readsWoman_3 5 rfl rfl)
theorem dX4_readsWoman_78 : decode cX4_readsWoman 78 = .ok (.ifCond .ne 4, 3) := dk_154 0 4 (dk_at dksX4_readsWoman_3 8 rfl rfl)
theorem dX4_readsWoman_81 : decode cX4_readsWoman 81 = .ok (.return_, 1) := dk_177 (dk_at dksX4_readsWoman_3 11 rfl rfl)
theorem dX4_readsWoman_82 : decode cX4_readsWoman 82 = .ok (.aload_n 0, 1) := dk_42 (dk_at dksX4_readsWoman_3 12 rfl rfl)
theorem dX4_readsWoman_83 : decode cX4_readsWoman 83 = .ok (.getfield 53, 3) := dk_180 0 53 (dk_at dksX4_readsWoman_3 13 rfl rfl)
theorem dX4_readsWoman_86 : decode cX4_readsWoman 86 = .ok (.bipush 37, 2) := dk_16 37 (dk_at dksX4_readsWoman_3 16 rfl rfl)
theorem dX4_readsWoman_88 : decode cX4_readsWoman 88 = .ok (.iload_n 1, 1) := dk_27 (dk_at dksX4_readsWoman_3 18 rfl rfl)
theorem dX4_readsWoman_89 : decode cX4_readsWoman 89 = .ok (.iadd, 1) := dk_96 (dk_at dksX4_readsWoman_3 19 rfl rfl)
theorem dX4_readsWoman_90 : decode cX4_readsWoman 90 = .ok (.aload_n 0, 1) := dk_42 (dk_at dksX4_readsWoman_3 20 rfl rfl)
theorem dX4_readsWoman_91 : decode cX4_readsWoman 91 = .ok (.getfield 144, 3) := dk_180 0 144 (dk_at dksX4_readsWoman_3 21 rfl rfl)
theorem dX4_readsWoman_94 : decode cX4_readsWoman 94 = .ok (.iastore, 1) := dk_79 (dk_at dksX4_readsWoman_4 0 rfl rfl)
theorem dX4_readsWoman_95 : decode cX4_readsWoman 95 = .ok (.aload_n 0, 1) := dk_42 (dk_at dksX4_readsWoman_4 1 rfl rfl)
theorem dX4_readsWoman_96 : decode cX4_readsWoman 96 = .ok (.invokevirtual 180, 3) := dk_182 0 180 (dk_at dksX4_readsWoman_4 2 rfl rfl)
theorem dX4_readsWoman_99 : decode cX4_readsWoman 99 = .ok (.aload_n 0, 1) := dk_42 (dk_at dksX4_readsWoman_4 5 rfl rfl)
theorem dX4_readsWoman_100 : decode cX4_readsWoman 100 = .ok (.getfield 53, 3) := dk_180 0 53 (dk_at dksX4_readsWoman_4 6 rfl rfl)
theorem dX4_readsWoman_103 : decode cX4_readsWoman 103 = .ok (.bipush 43, 2) := dk_16 43 (dk_at dksX4_readsWoman_4 9 rfl rfl)
theorem dX4_readsWoman_105 : decode cX4_readsWoman 105 = .ok (.iload_n 1, 1) := dk_27 (dk_at dksX4_readsWoman_4 11 rfl rfl)
theorem dX4_readsWoman_106 : decode cX4_readsWoman 106 = .ok (.iadd, 1) := dk_96 (dk_at dksX4_readsWoman_4 12 rfl rfl)
theorem dX4_readsWoman_107 : decode cX4_readsWoman 107 = .ok (.aload_n 0, 1) := dk_42 (dk_at dksX4_readsWoman_4 13 rfl rfl)
theorem dX4_readsWoman_108 : decode cX4_readsWoman 108 = .ok (.iconst 0, 1) := dk_3 (dk_at dksX4_readsWoman_4 14 rfl rfl)
theorem dX4_readsWoman_109 : decode cX4_readsWoman 109 = .ok (.bipush 99, 2) := dk_16 99 (dk_at dksX4_readsWoman_4 15 rfl rfl)
theorem dX4_readsWoman_111 : decode cX4_readsWoman 111 = .ok (.invokevirtual 236, 3) := dk_182 0 236 (dk_at dksX4_readsWoman_4 17 rfl rfl)
theorem dX4_readsWoman_114 : decode cX4_readsWoman 114 = .ok (.iastore, 1) := dk_79 (dk_at dksX4_readsWoman_4 20 rfl rfl)
theorem dX4_readsWoman_115 : decode cX4_readsWoman 115 = .ok (.aload_n 0, 1) := dk_42 (dk_at dksX4_readsWoman_4 21 rfl rfl)
theorem dX4_readsWoman_116 : decode cX4_readsWoman 116 = .ok (.invokevirtual 176, 3) := dk_182 0 176 (dk_at dksX4_readsWoman_5 0 rfl rfl)
theorem dX4_readsWoman_119 : decode cX4_readsWoman 119 = .ok (.ifCond .eq 13, 3) := dk_153 0 13 (dk_at dksX4_readsWoman_5 3 rfl rfl)
theorem dX4_readsWoman_122 : decode cX4_readsWoman 122 = .ok (.aload_n 0, 1) := dk_42 (dk_at dksX4_readsWoman_5 6 rfl rfl)
theorem dX4_readsWoman_123 : decode cX4_readsWoman 123 = .ok (.dup, 1) := dk_89 (dk_at dksX4_readsWoman_5 7 rfl rfl)
theorem dX4_readsWoman_124 : decode cX4_readsWoman 124 = .ok (.getfield 240, 3) := dk_180 0 240 (dk_at dksX4_readsWoman_5 8 rfl rfl)
theorem dX4_readsWoman_127 : decode cX4_readsWoman 127 = .ok (.iconst 1, 1) := dk_4 (dk_at dksX4_readsWoman_5 11 rfl rfl)
theorem dX4_readsWoman_128 : decode cX4_readsWoman 128 = .ok (.iadd, 1) := dk_96 (dk_at dksX4_readsWoman_5 12 rfl rfl)
theorem dX4_readsWoman_129 : decode cX4_readsWoman 129 = .ok (.putfield 240, 3) := dk_181 0 240 (dk_at dksX4_readsWoman_5 13 rfl rfl)
theorem dX4_readsWoman_132 : decode cX4_readsWoman 132 = .ok (.return_, 1) := dk_177 (dk_at dksX4_readsWoman_5 16 rfl rfl)
abbrev cX4_line : ByteArray := prog_12_method_39_code
def yX4_line : MethodName := ⟨RX4, "line", "()V"⟩
def dkwX4_line_10 : List UInt8 := [167, 0, 8, 42, 4, 182, 0, 183, 42, 42, 16, 59, 182, 0, 208, 182, 1, 18, 177]
abbrev dktX4_line_10 : List UInt8 := dkwX4_line_10 ++ []
def dkwX4_line_9 : List UInt8 := [167, 0, 4, 3, 182, 0, 249, 153, 0, 23, 42, 42, 180, 0, 186, 181, 1, 15, 42, 182, 1, 12]
abbrev dktX4_line_9 : List UInt8 := dkwX4_line_9 ++ dktX4_line_10
def dkwX4_line_8 : List UInt8 := [182, 1, 12, 167, 0, 50, 27, 16, 11, 160, 0, 39, 42, 3, 42, 180, 1, 15, 2, 159, 0, 7, 4]
abbrev dktX4_line_8 : List UInt8 := dkwX4_line_8 ++ dktX4_line_9
def dkwX4_line_7 : List UInt8 := [159, 0, 7, 4, 167, 0, 4, 3, 182, 0, 249, 153, 0, 65, 42, 42, 180, 0, 186, 181, 1, 9, 42]
abbrev dktX4_line_7 : List UInt8 := dkwX4_line_7 ++ dktX4_line_8
def dkwX4_line_6 : List UInt8 := [16, 9, 182, 0, 236, 181, 1, 6, 167, 0, 92, 27, 16, 10, 160, 0, 39, 42, 3, 42, 180, 1, 9, 2]
abbrev dktX4_line_6 : List UInt8 := dkwX4_line_6 ++ dktX4_line_7
def dkwX4_line_5 : List UInt8 := [3, 42, 180, 1, 6, 2, 159, 0, 7, 4, 167, 0, 4, 3, 182, 0, 249, 153, 0, 106, 42, 42, 4]
abbrev dktX4_line_5 : List UInt8 := dkwX4_line_5 ++ dktX4_line_6
def dkwX4_line_4 : List UInt8 := [167, 0, 4, 3, 182, 0, 249, 153, 0, 140, 42, 182, 1, 3, 167, 0, 133, 27, 16, 9, 160, 0, 38, 42]
abbrev dktX4_line_4 : List UInt8 := dkwX4_line_4 ++ dktX4_line_5
def dkwX4_line_3 : List UInt8 := [182, 1, 0, 167, 0, 166, 27, 16, 8, 160, 0, 30, 42, 3, 42, 180, 0, 243, 158, 0, 7, 4]
abbrev dktX4_line_3 : List UInt8 := dkwX4_line_3 ++ dktX4_line_4
def dkwX4_line_2 : List UInt8 := [42, 42, 180, 0, 240, 16, 6, 160, 0, 7, 4, 167, 0, 4, 3, 3, 182, 0, 249, 153, 0, 173, 42]
abbrev dktX4_line_2 : List UInt8 := dkwX4_line_2 ++ dktX4_line_3
def dkwX4_line_1 : List UInt8 := [167, 0, 4, 3, 3, 182, 0, 249, 153, 0, 208, 42, 182, 0, 253, 167, 0, 201, 27, 16, 7, 160, 0, 32]
abbrev dktX4_line_1 : List UInt8 := dkwX4_line_1 ++ dktX4_line_2
def dkwX4_line_0 : List UInt8 := [42, 182, 0, 201, 60, 27, 16, 6, 160, 0, 32, 42, 42, 180, 0, 233, 16, 12, 160, 0, 7, 4]
abbrev dktX4_line_0 : List UInt8 := dkwX4_line_0 ++ dktX4_line_1
theorem dksX4_line_0 : cX4_line.data.toList.drop 0 = dktX4_line_0 := by decide +kernel
theorem dksX4_line_1 : cX4_line.data.toList.drop 22 = dktX4_line_1 := dk_seg dksX4_line_0 22 rfl rfl
theorem dksX4_line_2 : cX4_line.data.toList.drop 46 = dktX4_line_2 := dk_seg dksX4_line_1 24 rfl rfl
theorem dksX4_line_3 : cX4_line.data.toList.drop 69 = dktX4_line_3 := dk_seg dksX4_line_2 23 rfl rfl
theorem dksX4_line_4 : cX4_line.data.toList.drop 91 = dktX4_line_4 := dk_seg dksX4_line_3 22 rfl rfl
theorem dksX4_line_5 : cX4_line.data.toList.drop 115 = dktX4_line_5 := dk_seg dksX4_line_4 24 rfl rfl
theorem dksX4_line_6 : cX4_line.data.toList.drop 138 = dktX4_line_6 := dk_seg dksX4_line_5 23 rfl rfl
theorem dksX4_line_7 : cX4_line.data.toList.drop 162 = dktX4_line_7 := dk_seg dksX4_line_6 24 rfl rfl
theorem dksX4_line_8 : cX4_line.data.toList.drop 185 = dktX4_line_8 := dk_seg dksX4_line_7 23 rfl rfl
theorem dksX4_line_9 : cX4_line.data.toList.drop 208 = dktX4_line_9 := dk_seg dksX4_line_8 23 rfl rfl
theorem dksX4_line_10 : cX4_line.data.toList.drop 230 = dktX4_line_10 := dk_seg dksX4_line_9 22 rfl rfl
theorem dX4_line_0 : decode cX4_line 0 = .ok (.aload_n 0, 1) := dk_42 (dk_at dksX4_line_0 0 rfl rfl)
theorem dX4_line_1 : decode cX4_line 1 = .ok (.invokevirtual 201, 3) := dk_182 0 201 (dk_at dksX4_line_0 1 rfl rfl)
theorem dX4_line_4 : decode cX4_line 4 = .ok (.istore_n 1, 1) := dk_60 (dk_at dksX4_line_0 4 rfl rfl)
theorem dX4_line_5 : decode cX4_line 5 = .ok (.iload_n 1, 1) := dk_27 (dk_at dksX4_line_0 5 rfl rfl)
theorem dX4_line_6 : decode cX4_line 6 = .ok (.bipush 6, 2) := dk_16 6 (dk_at dksX4_line_0 6 rfl rfl)
theorem dX4_line_8 : decode cX4_line 8 = .ok (.if_icmp .ne 32, 3) := dk_160 0 32 (dk_at dksX4_line_0 8 rfl rfl)
theorem dX4_line_11 : decode cX4_line 11 = .ok (.aload_n 0, 1) := dk_42 (dk_at dksX4_line_0 11 rfl rfl)
theorem dX4_line_12 : decode cX4_line 12 = .ok (.aload_n 0, 1) := dk_42 (dk_at dksX4_line_0 12 rfl rfl)
theorem dX4_line_13 : decode cX4_line 13 = .ok (.getfield 233, 3) := dk_180 0 233 (dk_at dksX4_line_0 13 rfl rfl)
theorem dX4_line_16 : decode cX4_line 16 = .ok (.bipush 12, 2) := dk_16 12 (dk_at dksX4_line_0 16 rfl rfl)
theorem dX4_line_18 : decode cX4_line 18 = .ok (.if_icmp .ne 7, 3) := dk_160 0 7 (dk_at dksX4_line_0 18 rfl rfl)
theorem dX4_line_21 : decode cX4_line 21 = .ok (.iconst 1, 1) := dk_4 (dk_at dksX4_line_0 21 rfl rfl)
theorem dX4_line_22 : decode cX4_line 22 = .ok (.goto 4, 3) := dk_167 0 4 (dk_at dksX4_line_1 0 rfl rfl)
theorem dX4_line_25 : decode cX4_line 25 = .ok (.iconst 0, 1) := dk_3 (dk_at dksX4_line_1 3 rfl rfl)
theorem dX4_line_26 : decode cX4_line 26 = .ok (.iconst 0, 1) := dk_3 (dk_at dksX4_line_1 4 rfl rfl)
theorem dX4_line_27 : decode cX4_line 27 = .ok (.invokevirtual 249, 3) := dk_182 0 249 (dk_at dksX4_line_1 5 rfl rfl)
theorem dX4_line_30 : decode cX4_line 30 = .ok (.ifCond .eq 208, 3) := dk_153 0 208 (dk_at dksX4_line_1 8 rfl rfl)
theorem dX4_line_33 : decode cX4_line 33 = .ok (.aload_n 0, 1) := dk_42 (dk_at dksX4_line_1 11 rfl rfl)
theorem dX4_line_34 : decode cX4_line 34 = .ok (.invokevirtual 253, 3) := dk_182 0 253 (dk_at dksX4_line_1 12 rfl rfl)
theorem dX4_line_37 : decode cX4_line 37 = .ok (.goto 201, 3) := dk_167 0 201 (dk_at dksX4_line_1 15 rfl rfl)
theorem dX4_line_40 : decode cX4_line 40 = .ok (.iload_n 1, 1) := dk_27 (dk_at dksX4_line_1 18 rfl rfl)
theorem dX4_line_41 : decode cX4_line 41 = .ok (.bipush 7, 2) := dk_16 7 (dk_at dksX4_line_1 19 rfl rfl)
theorem dX4_line_43 : decode cX4_line 43 = .ok (.if_icmp .ne 32, 3) := dk_160 0 32 (dk_at dksX4_line_1 21 rfl rfl)
theorem dX4_line_46 : decode cX4_line 46 = .ok (.aload_n 0, 1) := dk_42 (dk_at dksX4_line_2 0 rfl rfl)
theorem dX4_line_47 : decode cX4_line 47 = .ok (.aload_n 0, 1) := dk_42 (dk_at dksX4_line_2 1 rfl rfl)
theorem dX4_line_48 : decode cX4_line 48 = .ok (.getfield 240, 3) := dk_180 0 240 (dk_at dksX4_line_2 2 rfl rfl)
theorem dX4_line_51 : decode cX4_line 51 = .ok (.bipush 6, 2) := dk_16 6 (dk_at dksX4_line_2 5 rfl rfl)
theorem dX4_line_53 : decode cX4_line 53 = .ok (.if_icmp .ne 7, 3) := dk_160 0 7 (dk_at dksX4_line_2 7 rfl rfl)
theorem dX4_line_56 : decode cX4_line 56 = .ok (.iconst 1, 1) := dk_4 (dk_at dksX4_line_2 10 rfl rfl)
theorem dX4_line_57 : decode cX4_line 57 = .ok (.goto 4, 3) := dk_167 0 4 (dk_at dksX4_line_2 11 rfl rfl)
theorem dX4_line_60 : decode cX4_line 60 = .ok (.iconst 0, 1) := dk_3 (dk_at dksX4_line_2 14 rfl rfl)
theorem dX4_line_61 : decode cX4_line 61 = .ok (.iconst 0, 1) := dk_3 (dk_at dksX4_line_2 15 rfl rfl)
theorem dX4_line_62 : decode cX4_line 62 = .ok (.invokevirtual 249, 3) := dk_182 0 249 (dk_at dksX4_line_2 16 rfl rfl)
theorem dX4_line_65 : decode cX4_line 65 = .ok (.ifCond .eq 173, 3) := dk_153 0 173 (dk_at dksX4_line_2 19 rfl rfl)
theorem dX4_line_68 : decode cX4_line 68 = .ok (.aload_n 0, 1) := dk_42 (dk_at dksX4_line_2 22 rfl rfl)
theorem dX4_line_69 : decode cX4_line 69 = .ok (.invokevirtual 256, 3) := dk_182 1 0 (dk_at dksX4_line_3 0 rfl rfl)
theorem dX4_line_72 : decode cX4_line 72 = .ok (.goto 166, 3) := dk_167 0 166 (dk_at dksX4_line_3 3 rfl rfl)
theorem dX4_line_75 : decode cX4_line 75 = .ok (.iload_n 1, 1) := dk_27 (dk_at dksX4_line_3 6 rfl rfl)
theorem dX4_line_76 : decode cX4_line 76 = .ok (.bipush 8, 2) := dk_16 8 (dk_at dksX4_line_3 7 rfl rfl)
theorem dX4_line_78 : decode cX4_line 78 = .ok (.if_icmp .ne 30, 3) := dk_160 0 30 (dk_at dksX4_line_3 9 rfl rfl)
theorem dX4_line_81 : decode cX4_line 81 = .ok (.aload_n 0, 1) := dk_42 (dk_at dksX4_line_3 12 rfl rfl)
theorem dX4_line_82 : decode cX4_line 82 = .ok (.iconst 0, 1) := dk_3 (dk_at dksX4_line_3 13 rfl rfl)
theorem dX4_line_83 : decode cX4_line 83 = .ok (.aload_n 0, 1) := dk_42 (dk_at dksX4_line_3 14 rfl rfl)
theorem dX4_line_84 : decode cX4_line 84 = .ok (.getfield 243, 3) := dk_180 0 243 (dk_at dksX4_line_3 15 rfl rfl)
theorem dX4_line_87 : decode cX4_line 87 = .ok (.ifCond .le 7, 3) := dk_158 0 7 (dk_at dksX4_line_3 18 rfl rfl)
theorem dX4_line_90 : decode cX4_line 90 = .ok (.iconst 1, 1) := dk_4 (dk_at dksX4_line_3 21 rfl rfl)
theorem dX4_line_91 : decode cX4_line 91 = .ok (.goto 4, 3) := dk_167 0 4 (dk_at dksX4_line_4 0 rfl rfl)
theorem dX4_line_94 : decode cX4_line 94 = .ok (.iconst 0, 1) := dk_3 (dk_at dksX4_line_4 3 rfl rfl)
theorem dX4_line_95 : decode cX4_line 95 = .ok (.invokevirtual 249, 3) := dk_182 0 249 (dk_at dksX4_line_4 4 rfl rfl)
theorem dX4_line_98 : decode cX4_line 98 = .ok (.ifCond .eq 140, 3) := dk_153 0 140 (dk_at dksX4_line_4 7 rfl rfl)
theorem dX4_line_101 : decode cX4_line 101 = .ok (.aload_n 0, 1) := dk_42 (dk_at dksX4_line_4 10 rfl rfl)
theorem dX4_line_102 : decode cX4_line 102 = .ok (.invokevirtual 259, 3) := dk_182 1 3 (dk_at dksX4_line_4 11 rfl rfl)
theorem dX4_line_105 : decode cX4_line 105 = .ok (.goto 133, 3) := dk_167 0 133 (dk_at dksX4_line_4 14 rfl rfl)
theorem dX4_line_108 : decode cX4_line 108 = .ok (.iload_n 1, 1) := dk_27 (dk_at dksX4_line_4 17 rfl rfl)
theorem dX4_line_109 : decode cX4_line 109 = .ok (.bipush 9, 2) := dk_16 9 (dk_at dksX4_line_4 18 rfl rfl)
theorem dX4_line_111 : decode cX4_line 111 = .ok (.if_icmp .ne 38, 3) := dk_160 0 38 (dk_at dksX4_line_4 20 rfl rfl)
theorem dX4_line_114 : decode cX4_line 114 = .ok (.aload_n 0, 1) := dk_42 (dk_at dksX4_line_4 23 rfl rfl)
theorem dX4_line_115 : decode cX4_line 115 = .ok (.iconst 0, 1) := dk_3 (dk_at dksX4_line_5 0 rfl rfl)
theorem dX4_line_116 : decode cX4_line 116 = .ok (.aload_n 0, 1) := dk_42 (dk_at dksX4_line_5 1 rfl rfl)
theorem dX4_line_117 : decode cX4_line 117 = .ok (.getfield 262, 3) := dk_180 1 6 (dk_at dksX4_line_5 2 rfl rfl)
theorem dX4_line_120 : decode cX4_line 120 = .ok (.iconst (-1), 1) := dk_2 (dk_at dksX4_line_5 5 rfl rfl)
theorem dX4_line_121 : decode cX4_line 121 = .ok (.if_icmp .eq 7, 3) := dk_159 0 7 (dk_at dksX4_line_5 6 rfl rfl)
theorem dX4_line_124 : decode cX4_line 124 = .ok (.iconst 1, 1) := dk_4 (dk_at dksX4_line_5 9 rfl rfl)
theorem dX4_line_125 : decode cX4_line 125 = .ok (.goto 4, 3) := dk_167 0 4 (dk_at dksX4_line_5 10 rfl rfl)
theorem dX4_line_128 : decode cX4_line 128 = .ok (.iconst 0, 1) := dk_3 (dk_at dksX4_line_5 13 rfl rfl)
theorem dX4_line_129 : decode cX4_line 129 = .ok (.invokevirtual 249, 3) := dk_182 0 249 (dk_at dksX4_line_5 14 rfl rfl)
theorem dX4_line_132 : decode cX4_line 132 = .ok (.ifCond .eq 106, 3) := dk_153 0 106 (dk_at dksX4_line_5 17 rfl rfl)
theorem dX4_line_135 : decode cX4_line 135 = .ok (.aload_n 0, 1) := dk_42 (dk_at dksX4_line_5 20 rfl rfl)
theorem dX4_line_136 : decode cX4_line 136 = .ok (.aload_n 0, 1) := dk_42 (dk_at dksX4_line_5 21 rfl rfl)
theorem dX4_line_137 : decode cX4_line 137 = .ok (.iconst 1, 1) := dk_4 (dk_at dksX4_line_5 22 rfl rfl)
theorem dX4_line_138 : decode cX4_line 138 = .ok (.bipush 9, 2) := dk_16 9 (dk_at dksX4_line_6 0 rfl rfl)
theorem dX4_line_140 : decode cX4_line 140 = .ok (.invokevirtual 236, 3) := dk_182 0 236 (dk_at dksX4_line_6 2 rfl rfl)
theorem dX4_line_143 : decode cX4_line 143 = .ok (.putfield 262, 3) := dk_181 1 6 (dk_at dksX4_line_6 5 rfl rfl)
theorem dX4_line_146 : decode cX4_line 146 = .ok (.goto 92, 3) := dk_167 0 92 (dk_at dksX4_line_6 8 rfl rfl)
theorem dX4_line_149 : decode cX4_line 149 = .ok (.iload_n 1, 1) := dk_27 (dk_at dksX4_line_6 11 rfl rfl)
theorem dX4_line_150 : decode cX4_line 150 = .ok (.bipush 10, 2) := dk_16 10 (dk_at dksX4_line_6 12 rfl rfl)
theorem dX4_line_152 : decode cX4_line 152 = .ok (.if_icmp .ne 39, 3) := dk_160 0 39 (dk_at dksX4_line_6 14 rfl rfl)
theorem dX4_line_155 : decode cX4_line 155 = .ok (.aload_n 0, 1) := dk_42 (dk_at dksX4_line_6 17 rfl rfl)
theorem dX4_line_156 : decode cX4_line 156 = .ok (.iconst 0, 1) := dk_3 (dk_at dksX4_line_6 18 rfl rfl)
theorem dX4_line_157 : decode cX4_line 157 = .ok (.aload_n 0, 1) := dk_42 (dk_at dksX4_line_6 19 rfl rfl)
theorem dX4_line_158 : decode cX4_line 158 = .ok (.getfield 265, 3) := dk_180 1 9 (dk_at dksX4_line_6 20 rfl rfl)
theorem dX4_line_161 : decode cX4_line 161 = .ok (.iconst (-1), 1) := dk_2 (dk_at dksX4_line_6 23 rfl rfl)
theorem dX4_line_162 : decode cX4_line 162 = .ok (.if_icmp .eq 7, 3) := dk_159 0 7 (dk_at dksX4_line_7 0 rfl rfl)
theorem dX4_line_165 : decode cX4_line 165 = .ok (.iconst 1, 1) := dk_4 (dk_at dksX4_line_7 3 rfl rfl)
theorem dX4_line_166 : decode cX4_line 166 = .ok (.goto 4, 3) := dk_167 0 4 (dk_at dksX4_line_7 4 rfl rfl)
theorem dX4_line_169 : decode cX4_line 169 = .ok (.iconst 0, 1) := dk_3 (dk_at dksX4_line_7 7 rfl rfl)
theorem dX4_line_170 : decode cX4_line 170 = .ok (.invokevirtual 249, 3) := dk_182 0 249 (dk_at dksX4_line_7 8 rfl rfl)
theorem dX4_line_173 : decode cX4_line 173 = .ok (.ifCond .eq 65, 3) := dk_153 0 65 (dk_at dksX4_line_7 11 rfl rfl)
theorem dX4_line_176 : decode cX4_line 176 = .ok (.aload_n 0, 1) := dk_42 (dk_at dksX4_line_7 14 rfl rfl)
theorem dX4_line_177 : decode cX4_line 177 = .ok (.aload_n 0, 1) := dk_42 (dk_at dksX4_line_7 15 rfl rfl)
theorem dX4_line_178 : decode cX4_line 178 = .ok (.getfield 186, 3) := dk_180 0 186 (dk_at dksX4_line_7 16 rfl rfl)
theorem dX4_line_181 : decode cX4_line 181 = .ok (.putfield 265, 3) := dk_181 1 9 (dk_at dksX4_line_7 19 rfl rfl)
theorem dX4_line_184 : decode cX4_line 184 = .ok (.aload_n 0, 1) := dk_42 (dk_at dksX4_line_7 22 rfl rfl)
theorem dX4_line_185 : decode cX4_line 185 = .ok (.invokevirtual 268, 3) := dk_182 1 12 (dk_at dksX4_line_8 0 rfl rfl)
theorem dX4_line_188 : decode cX4_line 188 = .ok (.goto 50, 3) := dk_167 0 50 (dk_at dksX4_line_8 3 rfl rfl)
theorem dX4_line_191 : decode cX4_line 191 = .ok (.iload_n 1, 1) := dk_27 (dk_at dksX4_line_8 6 rfl rfl)
theorem dX4_line_192 : decode cX4_line 192 = .ok (.bipush 11, 2) := dk_16 11 (dk_at dksX4_line_8 7 rfl rfl)
theorem dX4_line_194 : decode cX4_line 194 = .ok (.if_icmp .ne 39, 3) := dk_160 0 39 (dk_at dksX4_line_8 9 rfl rfl)
theorem dX4_line_197 : decode cX4_line 197 = .ok (.aload_n 0, 1) := dk_42 (dk_at dksX4_line_8 12 rfl rfl)
theorem dX4_line_198 : decode cX4_line 198 = .ok (.iconst 0, 1) := dk_3 (dk_at dksX4_line_8 13 rfl rfl)
theorem dX4_line_199 : decode cX4_line 199 = .ok (.aload_n 0, 1) := dk_42 (dk_at dksX4_line_8 14 rfl rfl)
theorem dX4_line_200 : decode cX4_line 200 = .ok (.getfield 271, 3) := dk_180 1 15 (dk_at dksX4_line_8 15 rfl rfl)
theorem dX4_line_203 : decode cX4_line 203 = .ok (.iconst (-1), 1) := dk_2 (dk_at dksX4_line_8 18 rfl rfl)
theorem dX4_line_204 : decode cX4_line 204 = .ok (.if_icmp .eq 7, 3) := dk_159 0 7 (dk_at dksX4_line_8 19 rfl rfl)
theorem dX4_line_207 : decode cX4_line 207 = .ok (.iconst 1, 1) := dk_4 (dk_at dksX4_line_8 22 rfl rfl)
theorem dX4_line_208 : decode cX4_line 208 = .ok (.goto 4, 3) := dk_167 0 4 (dk_at dksX4_line_9 0 rfl rfl)
theorem dX4_line_211 : decode cX4_line 211 = .ok (.iconst 0, 1) := dk_3 (dk_at dksX4_line_9 3 rfl rfl)
theorem dX4_line_212 : decode cX4_line 212 = .ok (.invokevirtual 249, 3) := dk_182 0 249 (dk_at dksX4_line_9 4 rfl rfl)
theorem dX4_line_215 : decode cX4_line 215 = .ok (.ifCond .eq 23, 3) := dk_153 0 23 (dk_at dksX4_line_9 7 rfl rfl)
theorem dX4_line_218 : decode cX4_line 218 = .ok (.aload_n 0, 1) := dk_42 (dk_at dksX4_line_9 10 rfl rfl)
theorem dX4_line_219 : decode cX4_line 219 = .ok (.aload_n 0, 1) := dk_42 (dk_at dksX4_line_9 11 rfl rfl)
theorem dX4_line_220 : decode cX4_line 220 = .ok (.getfield 186, 3) := dk_180 0 186 (dk_at dksX4_line_9 12 rfl rfl)
theorem dX4_line_223 : decode cX4_line 223 = .ok (.putfield 271, 3) := dk_181 1 15 (dk_at dksX4_line_9 15 rfl rfl)
theorem dX4_line_226 : decode cX4_line 226 = .ok (.aload_n 0, 1) := dk_42 (dk_at dksX4_line_9 18 rfl rfl)
theorem dX4_line_227 : decode cX4_line 227 = .ok (.invokevirtual 268, 3) := dk_182 1 12 (dk_at dksX4_line_9 19 rfl rfl)
theorem dX4_line_230 : decode cX4_line 230 = .ok (.goto 8, 3) := dk_167 0 8 (dk_at dksX4_line_10 0 rfl rfl)
theorem dX4_line_233 : decode cX4_line 233 = .ok (.aload_n 0, 1) := dk_42 (dk_at dksX4_line_10 3 rfl rfl)
theorem dX4_line_234 : decode cX4_line 234 = .ok (.iconst 1, 1) := dk_4 (dk_at dksX4_line_10 4 rfl rfl)
theorem dX4_line_235 : decode cX4_line 235 = .ok (.invokevirtual 183, 3) := dk_182 0 183 (dk_at dksX4_line_10 5 rfl rfl)
theorem dX4_line_238 : decode cX4_line 238 = .ok (.aload_n 0, 1) := dk_42 (dk_at dksX4_line_10 8 rfl rfl)
theorem dX4_line_239 : decode cX4_line 239 = .ok (.aload_n 0, 1) := dk_42 (dk_at dksX4_line_10 9 rfl rfl)
theorem dX4_line_240 : decode cX4_line 240 = .ok (.bipush 59, 2) := dk_16 59 (dk_at dksX4_line_10 10 rfl rfl)
theorem dX4_line_242 : decode cX4_line 242 = .ok (.invokevirtual 208, 3) := dk_182 0 208 (dk_at dksX4_line_10 12 rfl rfl)
theorem dX4_line_245 : decode cX4_line 245 = .ok (.invokevirtual 274, 3) := dk_182 1 18 (dk_at dksX4_line_10 15 rfl rfl)
theorem dX4_line_248 : decode cX4_line 248 = .ok (.return_, 1) := dk_177 (dk_at dksX4_line_10 18 rfl rfl)
abbrev cX4_right : ByteArray := prog_12_method_3_code
def yX4_right : MethodName := ⟨RX4, "right", "(ZI)Z"⟩
def dkwX4_right_1 : List UInt8 := [167, 0, 4, 3, 172]
abbrev dktX4_right_1 : List UInt8 := dkwX4_right_1 ++ []
def dkwX4_right_0 : List UInt8 := [42, 180, 0, 117, 154, 0, 12, 27, 154, 0, 8, 42, 28, 181, 0, 117, 42, 180, 0, 117, 154, 0, 7, 4]
abbrev dktX4_right_0 : List UInt8 := dkwX4_right_0 ++ dktX4_right_1
theorem dksX4_right_0 : cX4_right.data.toList.drop 0 = dktX4_right_0 := by decide +kernel
theorem dksX4_right_1 : cX4_right.data.toList.drop 24 = dktX4_right_1 := dk_seg dksX4_right_0 24 rfl rfl
theorem dX4_right_0 : decode cX4_right 0 = .ok (.aload_n 0, 1) := dk_42 (dk_at dksX4_right_0 0 rfl rfl)
theorem dX4_right_1 : decode cX4_right 1 = .ok (.getfield 117, 3) := dk_180 0 117 (dk_at dksX4_right_0 1 rfl rfl)
theorem dX4_right_4 : decode cX4_right 4 = .ok (.ifCond .ne 12, 3) := dk_154 0 12 (dk_at dksX4_right_0 4 rfl rfl)
theorem dX4_right_7 : decode cX4_right 7 = .ok (.iload_n 1, 1) := dk_27 (dk_at dksX4_right_0 7 rfl rfl)
theorem dX4_right_8 : decode cX4_right 8 = .ok (.ifCond .ne 8, 3) := dk_154 0 8 (dk_at dksX4_right_0 8 rfl rfl)
theorem dX4_right_11 : decode cX4_right 11 = .ok (.aload_n 0, 1) := dk_42 (dk_at dksX4_right_0 11 rfl rfl)
theorem dX4_right_12 : decode cX4_right 12 = .ok (.iload_n 2, 1) := dk_28 (dk_at dksX4_right_0 12 rfl rfl)
theorem dX4_right_13 : decode cX4_right 13 = .ok (.putfield 117, 3) := dk_181 0 117 (dk_at dksX4_right_0 13 rfl rfl)
theorem dX4_right_16 : decode cX4_right 16 = .ok (.aload_n 0, 1) := dk_42 (dk_at dksX4_right_0 16 rfl rfl)
theorem dX4_right_17 : decode cX4_right 17 = .ok (.getfield 117, 3) := dk_180 0 117 (dk_at dksX4_right_0 17 rfl rfl)
theorem dX4_right_20 : decode cX4_right 20 = .ok (.ifCond .ne 7, 3) := dk_154 0 7 (dk_at dksX4_right_0 20 rfl rfl)
theorem dX4_right_23 : decode cX4_right 23 = .ok (.iconst 1, 1) := dk_4 (dk_at dksX4_right_0 23 rfl rfl)
theorem dX4_right_24 : decode cX4_right 24 = .ok (.goto 4, 3) := dk_167 0 4 (dk_at dksX4_right_1 0 rfl rfl)
theorem dX4_right_27 : decode cX4_right 27 = .ok (.iconst 0, 1) := dk_3 (dk_at dksX4_right_1 3 rfl rfl)
theorem dX4_right_28 : decode cX4_right 28 = .ok (.ireturn, 1) := dk_172 (dk_at dksX4_right_1 4 rfl rfl)
abbrev cX4_ring : ByteArray := prog_12_method_40_code
def yX4_ring : MethodName := ⟨RX4, "ring", "(I)I"⟩
def dkwX4_ring_14 : List UInt8 := [167, 255, 237, 42, 3, 181, 1, 38, 42, 3, 181, 1, 41, 42, 3, 181, 1, 44, 3, 172]
abbrev dktX4_ring_14 : List UInt8 := dkwX4_ring_14 ++ []
def dkwX4_ring_13 : List UInt8 := [180, 0, 233, 61, 28, 6, 162, 0, 20, 42, 180, 0, 66, 16, 13, 28, 96, 16, 50, 79, 132, 2, 1]
abbrev dktX4_ring_13 : List UInt8 := dkwX4_ring_13 ++ dktX4_ring_14
def dkwX4_ring_12 : List UInt8 := [162, 0, 21, 42, 180, 0, 66, 28, 42, 180, 0, 53, 28, 46, 79, 132, 2, 1, 167, 255, 235, 42]
abbrev dktX4_ring_12 : List UInt8 := dkwX4_ring_12 ++ dktX4_ring_13
def dkwX4_ring_11 : List UInt8 := [42, 180, 0, 29, 182, 1, 34, 42, 42, 180, 0, 56, 42, 180, 0, 32, 182, 1, 34, 3, 61, 28, 16, 49]
abbrev dktX4_ring_11 : List UInt8 := dkwX4_ring_11 ++ dktX4_ring_12
def dkwX4_ring_10 : List UInt8 := [42, 180, 0, 22, 182, 1, 34, 42, 42, 180, 0, 47, 42, 180, 0, 26, 182, 1, 34, 42, 42, 180, 0, 50]
abbrev dktX4_ring_10 : List UInt8 := dkwX4_ring_10 ++ dktX4_ring_11
def dkwX4_ring_9 : List UInt8 := [181, 0, 13, 42, 42, 180, 1, 9, 181, 0, 16, 42, 42, 180, 1, 15, 181, 0, 19, 42, 42, 180, 0, 44]
abbrev dktX4_ring_9 : List UInt8 := dkwX4_ring_9 ++ dktX4_ring_10
def dkwX4_ring_8 : List UInt8 := [180, 0, 243, 181, 1, 31, 42, 42, 180, 1, 6, 2, 160, 0, 8, 16, 7, 167, 0, 7, 42, 180, 1, 6]
abbrev dktX4_ring_8 : List UInt8 := dkwX4_ring_8 ++ dktX4_ring_9
def dkwX4_ring_7 : List UInt8 := [162, 0, 7, 6, 167, 0, 7, 42, 180, 0, 233, 181, 0, 7, 42, 42, 180, 0, 240, 181, 1, 28, 42, 42]
abbrev dktX4_ring_7 : List UInt8 := dkwX4_ring_7 ++ dktX4_ring_8
def dkwX4_ring_6 : List UInt8 := [154, 0, 18, 42, 180, 0, 41, 3, 92, 46, 4, 96, 79, 42, 180, 0, 173, 172, 42, 42, 180, 0, 233, 6]
abbrev dktX4_ring_6 : List UInt8 := dkwX4_ring_6 ++ dktX4_ring_7
def dkwX4_ring_5 : List UInt8 := [182, 0, 176, 153, 0, 17, 42, 180, 0, 150, 153, 0, 10, 42, 182, 1, 25, 167, 255, 238, 42, 182, 0, 176]
abbrev dktX4_ring_5 : List UInt8 := dkwX4_ring_5 ++ dktX4_ring_6
def dkwX4_ring_4 : List UInt8 := [180, 0, 53, 28, 3, 79, 132, 2, 1, 167, 255, 240, 42, 3, 181, 0, 186, 42, 182, 0, 180, 42]
abbrev dktX4_ring_4 : List UInt8 := dkwX4_ring_4 ++ dktX4_ring_5
def dkwX4_ring_3 : List UInt8 := [42, 2, 181, 1, 6, 42, 2, 181, 1, 9, 42, 2, 181, 1, 15, 3, 61, 28, 16, 49, 162, 0, 16, 42]
abbrev dktX4_ring_3 : List UInt8 := dkwX4_ring_3 ++ dktX4_ring_4
def dkwX4_ring_2 : List UInt8 := [27, 181, 0, 127, 42, 3, 181, 0, 130, 42, 3, 181, 0, 233, 42, 3, 181, 0, 240, 42, 3, 181, 0, 243]
abbrev dktX4_ring_2 : List UInt8 := dkwX4_ring_2 ++ dktX4_ring_3
def dkwX4_ring_1 : List UInt8 := [182, 1, 21, 154, 0, 5, 3, 172, 42, 3, 181, 0, 120, 42, 2, 181, 0, 38, 42, 3, 181, 0, 173, 42]
abbrev dktX4_ring_1 : List UInt8 := dkwX4_ring_1 ++ dktX4_ring_2
def dkwX4_ring_0 : List UInt8 := [42, 3, 181, 0, 117, 42, 27, 155, 0, 15, 27, 42, 180, 0, 120, 163, 0, 7, 4, 167, 0, 4, 3, 4]
abbrev dktX4_ring_0 : List UInt8 := dkwX4_ring_0 ++ dktX4_ring_1
theorem dksX4_ring_0 : cX4_ring.data.toList.drop 0 = dktX4_ring_0 := by decide +kernel
theorem dksX4_ring_1 : cX4_ring.data.toList.drop 24 = dktX4_ring_1 := dk_seg dksX4_ring_0 24 rfl rfl
theorem dksX4_ring_2 : cX4_ring.data.toList.drop 48 = dktX4_ring_2 := dk_seg dksX4_ring_1 24 rfl rfl
theorem dksX4_ring_3 : cX4_ring.data.toList.drop 72 = dktX4_ring_3 := dk_seg dksX4_ring_2 24 rfl rfl
theorem dksX4_ring_4 : cX4_ring.data.toList.drop 96 = dktX4_ring_4 := dk_seg dksX4_ring_3 24 rfl rfl
theorem dksX4_ring_5 : cX4_ring.data.toList.drop 118 = dktX4_ring_5 := dk_seg dksX4_ring_4 22 rfl rfl
theorem dksX4_ring_6 : cX4_ring.data.toList.drop 142 = dktX4_ring_6 := dk_seg dksX4_ring_5 24 rfl rfl
theorem dksX4_ring_7 : cX4_ring.data.toList.drop 166 = dktX4_ring_7 := dk_seg dksX4_ring_6 24 rfl rfl
theorem dksX4_ring_8 : cX4_ring.data.toList.drop 190 = dktX4_ring_8 := dk_seg dksX4_ring_7 24 rfl rfl
theorem dksX4_ring_9 : cX4_ring.data.toList.drop 214 = dktX4_ring_9 := dk_seg dksX4_ring_8 24 rfl rfl
theorem dksX4_ring_10 : cX4_ring.data.toList.drop 238 = dktX4_ring_10 := dk_seg dksX4_ring_9 24 rfl rfl
theorem dksX4_ring_11 : cX4_ring.data.toList.drop 262 = dktX4_ring_11 := dk_seg dksX4_ring_10 24 rfl rfl
theorem dksX4_ring_12 : cX4_ring.data.toList.drop 286 = dktX4_ring_12 := dk_seg dksX4_ring_11 24 rfl rfl
theorem dksX4_ring_13 : cX4_ring.data.toList.drop 308 = dktX4_ring_13 := dk_seg dksX4_ring_12 22 rfl rfl
theorem dksX4_ring_14 : cX4_ring.data.toList.drop 331 = dktX4_ring_14 := dk_seg dksX4_ring_13 23 rfl rfl
theorem dX4_ring_0 : decode cX4_ring 0 = .ok (.aload_n 0, 1) := dk_42 (dk_at dksX4_ring_0 0 rfl rfl)
theorem dX4_ring_1 : decode cX4_ring 1 = .ok (.iconst 0, 1) := dk_3 (dk_at dksX4_ring_0 1 rfl rfl)
theorem dX4_ring_2 : decode cX4_ring 2 = .ok (.putfield 117, 3) := dk_181 0 117 (dk_at dksX4_ring_0 2 rfl rfl)
theorem dX4_ring_5 : decode cX4_ring 5 = .ok (.aload_n 0, 1) := dk_42 (dk_at dksX4_ring_0 5 rfl rfl)
theorem dX4_ring_6 : decode cX4_ring 6 = .ok (.iload_n 1, 1) := dk_27 (dk_at dksX4_ring_0 6 rfl rfl)
theorem dX4_ring_7 : decode cX4_ring 7 = .ok (.ifCond .lt 15, 3) := dk_155 0 15 (dk_at dksX4_ring_0 7 rfl rfl)
theorem dX4_ring_10 : decode cX4_ring 10 = .ok (.iload_n 1, 1) := dk_27 (dk_at dksX4_ring_0 10 rfl rfl)
theorem dX4_ring_11 : decode cX4_ring 11 = .ok (.aload_n 0, 1) := dk_42 (dk_at dksX4_ring_0 11 rfl rfl)
theorem dX4_ring_12 : decode cX4_ring 12 = .ok (.getfield 120, 3) := dk_180 0 120 (dk_at dksX4_ring_0 12 rfl rfl)
theorem dX4_ring_15 : decode cX4_ring 15 = .ok (.if_icmp .gt 7, 3) := dk_163 0 7 (dk_at dksX4_ring_0 15 rfl rfl)
theorem dX4_ring_18 : decode cX4_ring 18 = .ok (.iconst 1, 1) := dk_4 (dk_at dksX4_ring_0 18 rfl rfl)
theorem dX4_ring_19 : decode cX4_ring 19 = .ok (.goto 4, 3) := dk_167 0 4 (dk_at dksX4_ring_0 19 rfl rfl)
theorem dX4_ring_22 : decode cX4_ring 22 = .ok (.iconst 0, 1) := dk_3 (dk_at dksX4_ring_0 22 rfl rfl)
theorem dX4_ring_23 : decode cX4_ring 23 = .ok (.iconst 1, 1) := dk_4 (dk_at dksX4_ring_0 23 rfl rfl)
theorem dX4_ring_24 : decode cX4_ring 24 = .ok (.invokevirtual 277, 3) := dk_182 1 21 (dk_at dksX4_ring_1 0 rfl rfl)
theorem dX4_ring_27 : decode cX4_ring 27 = .ok (.ifCond .ne 5, 3) := dk_154 0 5 (dk_at dksX4_ring_1 3 rfl rfl)
theorem dX4_ring_30 : decode cX4_ring 30 = .ok (.iconst 0, 1) := dk_3 (dk_at dksX4_ring_1 6 rfl rfl)
theorem dX4_ring_31 : decode cX4_ring 31 = .ok (.ireturn, 1) := dk_172 (dk_at dksX4_ring_1 7 rfl rfl)
theorem dX4_ring_32 : decode cX4_ring 32 = .ok (.aload_n 0, 1) := dk_42 (dk_at dksX4_ring_1 8 rfl rfl)
theorem dX4_ring_33 : decode cX4_ring 33 = .ok (.iconst 0, 1) := dk_3 (dk_at dksX4_ring_1 9 rfl rfl)
theorem dX4_ring_34 : decode cX4_ring 34 = .ok (.putfield 120, 3) := dk_181 0 120 (dk_at dksX4_ring_1 10 rfl rfl)
theorem dX4_ring_37 : decode cX4_ring 37 = .ok (.aload_n 0, 1) := dk_42 (dk_at dksX4_ring_1 13 rfl rfl)
theorem dX4_ring_38 : decode cX4_ring 38 = .ok (.iconst (-1), 1) := dk_2 (dk_at dksX4_ring_1 14 rfl rfl)
theorem dX4_ring_39 : decode cX4_ring 39 = .ok (.putfield 38, 3) := dk_181 0 38 (dk_at dksX4_ring_1 15 rfl rfl)
theorem dX4_ring_42 : decode cX4_ring 42 = .ok (.aload_n 0, 1) := dk_42 (dk_at dksX4_ring_1 18 rfl rfl)
theorem dX4_ring_43 : decode cX4_ring 43 = .ok (.iconst 0, 1) := dk_3 (dk_at dksX4_ring_1 19 rfl rfl)
theorem dX4_ring_44 : decode cX4_ring 44 = .ok (.putfield 173, 3) := dk_181 0 173 (dk_at dksX4_ring_1 20 rfl rfl)
theorem dX4_ring_47 : decode cX4_ring 47 = .ok (.aload_n 0, 1) := dk_42 (dk_at dksX4_ring_1 23 rfl rfl)
theorem dX4_ring_48 : decode cX4_ring 48 = .ok (.iload_n 1, 1) := dk_27 (dk_at dksX4_ring_2 0 rfl rfl)
theorem dX4_ring_49 : decode cX4_ring 49 = .ok (.putfield 127, 3) := dk_181 0 127 (dk_at dksX4_ring_2 1 rfl rfl)
theorem dX4_ring_52 : decode cX4_ring 52 = .ok (.aload_n 0, 1) := dk_42 (dk_at dksX4_ring_2 4 rfl rfl)
theorem dX4_ring_53 : decode cX4_ring 53 = .ok (.iconst 0, 1) := dk_3 (dk_at dksX4_ring_2 5 rfl rfl)
theorem dX4_ring_54 : decode cX4_ring 54 = .ok (.putfield 130, 3) := dk_181 0 130 (dk_at dksX4_ring_2 6 rfl rfl)
theorem dX4_ring_57 : decode cX4_ring 57 = .ok (.aload_n 0, 1) := dk_42 (dk_at dksX4_ring_2 9 rfl rfl)
theorem dX4_ring_58 : decode cX4_ring 58 = .ok (.iconst 0, 1) := dk_3 (dk_at dksX4_ring_2 10 rfl rfl)
theorem dX4_ring_59 : decode cX4_ring 59 = .ok (.putfield 233, 3) := dk_181 0 233 (dk_at dksX4_ring_2 11 rfl rfl)
theorem dX4_ring_62 : decode cX4_ring 62 = .ok (.aload_n 0, 1) := dk_42 (dk_at dksX4_ring_2 14 rfl rfl)
theorem dX4_ring_63 : decode cX4_ring 63 = .ok (.iconst 0, 1) := dk_3 (dk_at dksX4_ring_2 15 rfl rfl)
theorem dX4_ring_64 : decode cX4_ring 64 = .ok (.putfield 240, 3) := dk_181 0 240 (dk_at dksX4_ring_2 16 rfl rfl)
theorem dX4_ring_67 : decode cX4_ring 67 = .ok (.aload_n 0, 1) := dk_42 (dk_at dksX4_ring_2 19 rfl rfl)
theorem dX4_ring_68 : decode cX4_ring 68 = .ok (.iconst 0, 1) := dk_3 (dk_at dksX4_ring_2 20 rfl rfl)
theorem dX4_ring_69 : decode cX4_ring 69 = .ok (.putfield 243, 3) := dk_181 0 243 (dk_at dksX4_ring_2 21 rfl rfl)
theorem dX4_ring_72 : decode cX4_ring 72 = .ok (.aload_n 0, 1) := dk_42 (dk_at dksX4_ring_3 0 rfl rfl)
theorem dX4_ring_73 : decode cX4_ring 73 = .ok (.iconst (-1), 1) := dk_2 (dk_at dksX4_ring_3 1 rfl rfl)
theorem dX4_ring_74 : decode cX4_ring 74 = .ok (.putfield 262, 3) := dk_181 1 6 (dk_at dksX4_ring_3 2 rfl rfl)
theorem dX4_ring_77 : decode cX4_ring 77 = .ok (.aload_n 0, 1) := dk_42 (dk_at dksX4_ring_3 5 rfl rfl)
theorem dX4_ring_78 : decode cX4_ring 78 = .ok (.iconst (-1), 1) := dk_2 (dk_at dksX4_ring_3 6 rfl rfl)
theorem dX4_ring_79 : decode cX4_ring 79 = .ok (.putfield 265, 3) := dk_181 1 9 (dk_at dksX4_ring_3 7 rfl rfl)
theorem dX4_ring_82 : decode cX4_ring 82 = .ok (.aload_n 0, 1) := dk_42 (dk_at dksX4_ring_3 10 rfl rfl)
theorem dX4_ring_83 : decode cX4_ring 83 = .ok (.iconst (-1), 1) := dk_2 (dk_at dksX4_ring_3 11 rfl rfl)
theorem dX4_ring_84 : decode cX4_ring 84 = .ok (.putfield 271, 3) := dk_181 1 15 (dk_at dksX4_ring_3 12 rfl rfl)
theorem dX4_ring_87 : decode cX4_ring 87 = .ok (.iconst 0, 1) := dk_3 (dk_at dksX4_ring_3 15 rfl rfl)
theorem dX4_ring_88 : decode cX4_ring 88 = .ok (.istore_n 2, 1) := dk_61 (dk_at dksX4_ring_3 16 rfl rfl)
theorem dX4_ring_89 : decode cX4_ring 89 = .ok (.iload_n 2, 1) := dk_28 (dk_at dksX4_ring_3 17 rfl rfl)
theorem dX4_ring_90 : decode cX4_ring 90 = .ok (.bipush 49, 2) := dk_16 49 (dk_at dksX4_ring_3 18 rfl rfl)
theorem dX4_ring_92 : decode cX4_ring 92 = .ok (.if_icmp .ge 16, 3) := dk_162 0 16 (dk_at dksX4_ring_3 20 rfl rfl)
theorem dX4_ring_95 : decode cX4_ring 95 = .ok (.aload_n 0, 1) := dk_42 (dk_at dksX4_ring_3 23 rfl rfl)
theorem dX4_ring_96 : decode cX4_ring 96 = .ok (.getfield 53, 3) := dk_180 0 53 (dk_at dksX4_ring_4 0 rfl rfl)
theorem dX4_ring_99 : decode cX4_ring 99 = .ok (.iload_n 2, 1) := dk_28 (dk_at dksX4_ring_4 3 rfl rfl)
theorem dX4_ring_100 : decode cX4_ring 100 = .ok (.iconst 0, 1) := dk_3 (dk_at dksX4_ring_4 4 rfl rfl)
theorem dX4_ring_101 : decode cX4_ring 101 = .ok (.iastore, 1) := dk_79 (dk_at dksX4_ring_4 5 rfl rfl)
theorem dX4_ring_102 : decode cX4_ring 102 = .ok (.iinc 2 1, 3) := dk_132 2 1 (dk_at dksX4_ring_4 6 rfl rfl)
theorem dX4_ring_105 : decode cX4_ring 105 = .ok (.goto (-16), 3) := dk_167 255 240 (dk_at dksX4_ring_4 9 rfl rfl)
theorem dX4_ring_108 : decode cX4_ring 108 = .ok (.aload_n 0, 1) := dk_42 (dk_at dksX4_ring_4 12 rfl rfl)
theorem dX4_ring_109 : decode cX4_ring 109 = .ok (.iconst 0, 1) := dk_3 (dk_at dksX4_ring_4 13 rfl rfl)
theorem dX4_ring_110 : decode cX4_ring 110 = .ok (.putfield 186, 3) := dk_181 0 186 (dk_at dksX4_ring_4 14 rfl rfl)
theorem dX4_ring_113 : decode cX4_ring 113 = .ok (.aload_n 0, 1) := dk_42 (dk_at dksX4_ring_4 17 rfl rfl)
theorem dX4_ring_114 : decode cX4_ring 114 = .ok (.invokevirtual 180, 3) := dk_182 0 180 (dk_at dksX4_ring_4 18 rfl rfl)
theorem dX4_ring_117 : decode cX4_ring 117 = .ok (.aload_n 0, 1) := dk_42 (dk_at dksX4_ring_4 21 rfl rfl)
theorem dX4_ring_118 : decode cX4_ring 118 = .ok (.invokevirtual 176, 3) := dk_182 0 176 (dk_at dksX4_ring_5 0 rfl rfl)
theorem dX4_ring_121 : decode cX4_ring 121 = .ok (.ifCond .eq 17, 3) := dk_153 0 17 (dk_at dksX4_ring_5 3 rfl rfl)
theorem dX4_ring_124 : decode cX4_ring 124 = .ok (.aload_n 0, 1) := dk_42 (dk_at dksX4_ring_5 6 rfl rfl)
theorem dX4_ring_125 : decode cX4_ring 125 = .ok (.getfield 150, 3) := dk_180 0 150 (dk_at dksX4_ring_5 7 rfl rfl)
theorem dX4_ring_128 : decode cX4_ring 128 = .ok (.ifCond .eq 10, 3) := dk_153 0 10 (dk_at dksX4_ring_5 10 rfl rfl)
theorem dX4_ring_131 : decode cX4_ring 131 = .ok (.aload_n 0, 1) := dk_42 (dk_at dksX4_ring_5 13 rfl rfl)
theorem dX4_ring_132 : decode cX4_ring 132 = .ok (.invokevirtual 281, 3) := dk_182 1 25 (dk_at dksX4_ring_5 14 rfl rfl)
theorem dX4_ring_135 : decode cX4_ring 135 = .ok (.goto (-18), 3) := dk_167 255 238 (dk_at dksX4_ring_5 17 rfl rfl)
theorem dX4_ring_138 : decode cX4_ring 138 = .ok (.aload_n 0, 1) := dk_42 (dk_at dksX4_ring_5 20 rfl rfl)
theorem dX4_ring_139 : decode cX4_ring 139 = .ok (.invokevirtual 176, 3) := dk_182 0 176 (dk_at dksX4_ring_5 21 rfl rfl)
theorem dX4_ring_142 : decode cX4_ring 142 = .ok (.ifCond .ne 18, 3) := dk_154 0 18 (dk_at dksX4_ring_6 0 rfl rfl)
theorem dX4_ring_145 : decode cX4_ring 145 = .ok (.aload_n 0, 1) := dk_42 (dk_at dksX4_ring_6 3 rfl rfl)
theorem dX4_ring_146 : decode cX4_ring 146 = .ok (.getfield 41, 3) := dk_180 0 41 (dk_at dksX4_ring_6 4 rfl rfl)
theorem dX4_ring_149 : decode cX4_ring 149 = .ok (.iconst 0, 1) := dk_3 (dk_at dksX4_ring_6 7 rfl rfl)
theorem dX4_ring_150 : decode cX4_ring 150 = .ok (.dup2, 1) := dk_92 (dk_at dksX4_ring_6 8 rfl rfl)
theorem dX4_ring_151 : decode cX4_ring 151 = .ok (.iaload, 1) := dk_46 (dk_at dksX4_ring_6 9 rfl rfl)
theorem dX4_ring_152 : decode cX4_ring 152 = .ok (.iconst 1, 1) := dk_4 (dk_at dksX4_ring_6 10 rfl rfl)
theorem dX4_ring_153 : decode cX4_ring 153 = .ok (.iadd, 1) := dk_96 (dk_at dksX4_ring_6 11 rfl rfl)
theorem dX4_ring_154 : decode cX4_ring 154 = .ok (.iastore, 1) := dk_79 (dk_at dksX4_ring_6 12 rfl rfl)
theorem dX4_ring_155 : decode cX4_ring 155 = .ok (.aload_n 0, 1) := dk_42 (dk_at dksX4_ring_6 13 rfl rfl)
theorem dX4_ring_156 : decode cX4_ring 156 = .ok (.getfield 173, 3) := dk_180 0 173 (dk_at dksX4_ring_6 14 rfl rfl)
theorem dX4_ring_159 : decode cX4_ring 159 = .ok (.ireturn, 1) := dk_172 (dk_at dksX4_ring_6 17 rfl rfl)
theorem dX4_ring_160 : decode cX4_ring 160 = .ok (.aload_n 0, 1) := dk_42 (dk_at dksX4_ring_6 18 rfl rfl)
theorem dX4_ring_161 : decode cX4_ring 161 = .ok (.aload_n 0, 1) := dk_42 (dk_at dksX4_ring_6 19 rfl rfl)
theorem dX4_ring_162 : decode cX4_ring 162 = .ok (.getfield 233, 3) := dk_180 0 233 (dk_at dksX4_ring_6 20 rfl rfl)
theorem dX4_ring_165 : decode cX4_ring 165 = .ok (.iconst 3, 1) := dk_6 (dk_at dksX4_ring_6 23 rfl rfl)
theorem dX4_ring_166 : decode cX4_ring 166 = .ok (.if_icmp .ge 7, 3) := dk_162 0 7 (dk_at dksX4_ring_7 0 rfl rfl)
theorem dX4_ring_169 : decode cX4_ring 169 = .ok (.iconst 3, 1) := dk_6 (dk_at dksX4_ring_7 3 rfl rfl)
theorem dX4_ring_170 : decode cX4_ring 170 = .ok (.goto 7, 3) := dk_167 0 7 (dk_at dksX4_ring_7 4 rfl rfl)
theorem dX4_ring_173 : decode cX4_ring 173 = .ok (.aload_n 0, 1) := dk_42 (dk_at dksX4_ring_7 7 rfl rfl)
theorem dX4_ring_174 : decode cX4_ring 174 = .ok (.getfield 233, 3) := dk_180 0 233 (dk_at dksX4_ring_7 8 rfl rfl)
theorem dX4_ring_177 : decode cX4_ring 177 = .ok (.putfield 7, 3) := dk_181 0 7 (dk_at dksX4_ring_7 11 rfl rfl)
theorem dX4_ring_180 : decode cX4_ring 180 = .ok (.aload_n 0, 1) := dk_42 (dk_at dksX4_ring_7 14 rfl rfl)
theorem dX4_ring_181 : decode cX4_ring 181 = .ok (.aload_n 0, 1) := dk_42 (dk_at dksX4_ring_7 15 rfl rfl)
theorem dX4_ring_182 : decode cX4_ring 182 = .ok (.getfield 240, 3) := dk_180 0 240 (dk_at dksX4_ring_7 16 rfl rfl)
theorem dX4_ring_185 : decode cX4_ring 185 = .ok (.putfield 284, 3) := dk_181 1 28 (dk_at dksX4_ring_7 19 rfl rfl)
theorem dX4_ring_188 : decode cX4_ring 188 = .ok (.aload_n 0, 1) := dk_42 (dk_at dksX4_ring_7 22 rfl rfl)
theorem dX4_ring_189 : decode cX4_ring 189 = .ok (.aload_n 0, 1) := dk_42 (dk_at dksX4_ring_7 23 rfl rfl)
theorem dX4_ring_190 : decode cX4_ring 190 = .ok (.getfield 243, 3) := dk_180 0 243 (dk_at dksX4_ring_8 0 rfl rfl)
theorem dX4_ring_193 : decode cX4_ring 193 = .ok (.putfield 287, 3) := dk_181 1 31 (dk_at dksX4_ring_8 3 rfl rfl)
theorem dX4_ring_196 : decode cX4_ring 196 = .ok (.aload_n 0, 1) := dk_42 (dk_at dksX4_ring_8 6 rfl rfl)
theorem dX4_ring_197 : decode cX4_ring 197 = .ok (.aload_n 0, 1) := dk_42 (dk_at dksX4_ring_8 7 rfl rfl)
theorem dX4_ring_198 : decode cX4_ring 198 = .ok (.getfield 262, 3) := dk_180 1 6 (dk_at dksX4_ring_8 8 rfl rfl)
theorem dX4_ring_201 : decode cX4_ring 201 = .ok (.iconst (-1), 1) := dk_2 (dk_at dksX4_ring_8 11 rfl rfl)
theorem dX4_ring_202 : decode cX4_ring 202 = .ok (.if_icmp .ne 8, 3) := dk_160 0 8 (dk_at dksX4_ring_8 12 rfl rfl)
theorem dX4_ring_205 : decode cX4_ring 205 = .ok (.bipush 7, 2) := dk_16 7 (dk_at dksX4_ring_8 15 rfl rfl)
theorem dX4_ring_207 : decode cX4_ring 207 = .ok (.goto 7, 3) := dk_167 0 7 (dk_at dksX4_ring_8 17 rfl rfl)
theorem dX4_ring_210 : decode cX4_ring 210 = .ok (.aload_n 0, 1) := dk_42 (dk_at dksX4_ring_8 20 rfl rfl)
theorem dX4_ring_211 : decode cX4_ring 211 = .ok (.getfield 262, 3) := dk_180 1 6 (dk_at dksX4_ring_8 21 rfl rfl)
theorem dX4_ring_214 : decode cX4_ring 214 = .ok (.putfield 13, 3) := dk_181 0 13 (dk_at dksX4_ring_9 0 rfl rfl)
theorem dX4_ring_217 : decode cX4_ring 217 = .ok (.aload_n 0, 1) := dk_42 (dk_at dksX4_ring_9 3 rfl rfl)
theorem dX4_ring_218 : decode cX4_ring 218 = .ok (.aload_n 0, 1) := dk_42 (dk_at dksX4_ring_9 4 rfl rfl)
theorem dX4_ring_219 : decode cX4_ring 219 = .ok (.getfield 265, 3) := dk_180 1 9 (dk_at dksX4_ring_9 5 rfl rfl)
theorem dX4_ring_222 : decode cX4_ring 222 = .ok (.putfield 16, 3) := dk_181 0 16 (dk_at dksX4_ring_9 8 rfl rfl)
theorem dX4_ring_225 : decode cX4_ring 225 = .ok (.aload_n 0, 1) := dk_42 (dk_at dksX4_ring_9 11 rfl rfl)
theorem dX4_ring_226 : decode cX4_ring 226 = .ok (.aload_n 0, 1) := dk_42 (dk_at dksX4_ring_9 12 rfl rfl)
theorem dX4_ring_227 : decode cX4_ring 227 = .ok (.getfield 271, 3) := dk_180 1 15 (dk_at dksX4_ring_9 13 rfl rfl)
theorem dX4_ring_230 : decode cX4_ring 230 = .ok (.putfield 19, 3) := dk_181 0 19 (dk_at dksX4_ring_9 16 rfl rfl)
theorem dX4_ring_233 : decode cX4_ring 233 = .ok (.aload_n 0, 1) := dk_42 (dk_at dksX4_ring_9 19 rfl rfl)
theorem dX4_ring_234 : decode cX4_ring 234 = .ok (.aload_n 0, 1) := dk_42 (dk_at dksX4_ring_9 20 rfl rfl)
theorem dX4_ring_235 : decode cX4_ring 235 = .ok (.getfield 44, 3) := dk_180 0 44 (dk_at dksX4_ring_9 21 rfl rfl)
theorem dX4_ring_238 : decode cX4_ring 238 = .ok (.aload_n 0, 1) := dk_42 (dk_at dksX4_ring_10 0 rfl rfl)
theorem dX4_ring_239 : decode cX4_ring 239 = .ok (.getfield 22, 3) := dk_180 0 22 (dk_at dksX4_ring_10 1 rfl rfl)
theorem dX4_ring_242 : decode cX4_ring 242 = .ok (.invokevirtual 290, 3) := dk_182 1 34 (dk_at dksX4_ring_10 4 rfl rfl)
theorem dX4_ring_245 : decode cX4_ring 245 = .ok (.aload_n 0, 1) := dk_42 (dk_at dksX4_ring_10 7 rfl rfl)
theorem dX4_ring_246 : decode cX4_ring 246 = .ok (.aload_n 0, 1) := dk_42 (dk_at dksX4_ring_10 8 rfl rfl)
theorem dX4_ring_247 : decode cX4_ring 247 = .ok (.getfield 47, 3) := dk_180 0 47 (dk_at dksX4_ring_10 9 rfl rfl)
theorem dX4_ring_250 : decode cX4_ring 250 = .ok (.aload_n 0, 1) := dk_42 (dk_at dksX4_ring_10 12 rfl rfl)
theorem dX4_ring_251 : decode cX4_ring 251 = .ok (.getfield 26, 3) := dk_180 0 26 (dk_at dksX4_ring_10 13 rfl rfl)
theorem dX4_ring_254 : decode cX4_ring 254 = .ok (.invokevirtual 290, 3) := dk_182 1 34 (dk_at dksX4_ring_10 16 rfl rfl)
theorem dX4_ring_257 : decode cX4_ring 257 = .ok (.aload_n 0, 1) := dk_42 (dk_at dksX4_ring_10 19 rfl rfl)
theorem dX4_ring_258 : decode cX4_ring 258 = .ok (.aload_n 0, 1) := dk_42 (dk_at dksX4_ring_10 20 rfl rfl)
theorem dX4_ring_259 : decode cX4_ring 259 = .ok (.getfield 50, 3) := dk_180 0 50 (dk_at dksX4_ring_10 21 rfl rfl)
theorem dX4_ring_262 : decode cX4_ring 262 = .ok (.aload_n 0, 1) := dk_42 (dk_at dksX4_ring_11 0 rfl rfl)
theorem dX4_ring_263 : decode cX4_ring 263 = .ok (.getfield 29, 3) := dk_180 0 29 (dk_at dksX4_ring_11 1 rfl rfl)
theorem dX4_ring_266 : decode cX4_ring 266 = .ok (.invokevirtual 290, 3) := dk_182 1 34 (dk_at dksX4_ring_11 4 rfl rfl)
theorem dX4_ring_269 : decode cX4_ring 269 = .ok (.aload_n 0, 1) := dk_42 (dk_at dksX4_ring_11 7 rfl rfl)
theorem dX4_ring_270 : decode cX4_ring 270 = .ok (.aload_n 0, 1) := dk_42 (dk_at dksX4_ring_11 8 rfl rfl)
theorem dX4_ring_271 : decode cX4_ring 271 = .ok (.getfield 56, 3) := dk_180 0 56 (dk_at dksX4_ring_11 9 rfl rfl)
theorem dX4_ring_274 : decode cX4_ring 274 = .ok (.aload_n 0, 1) := dk_42 (dk_at dksX4_ring_11 12 rfl rfl)
theorem dX4_ring_275 : decode cX4_ring 275 = .ok (.getfield 32, 3) := dk_180 0 32 (dk_at dksX4_ring_11 13 rfl rfl)
theorem dX4_ring_278 : decode cX4_ring 278 = .ok (.invokevirtual 290, 3) := dk_182 1 34 (dk_at dksX4_ring_11 16 rfl rfl)
theorem dX4_ring_281 : decode cX4_ring 281 = .ok (.iconst 0, 1) := dk_3 (dk_at dksX4_ring_11 19 rfl rfl)
theorem dX4_ring_282 : decode cX4_ring 282 = .ok (.istore_n 2, 1) := dk_61 (dk_at dksX4_ring_11 20 rfl rfl)
theorem dX4_ring_283 : decode cX4_ring 283 = .ok (.iload_n 2, 1) := dk_28 (dk_at dksX4_ring_11 21 rfl rfl)
theorem dX4_ring_284 : decode cX4_ring 284 = .ok (.bipush 49, 2) := dk_16 49 (dk_at dksX4_ring_11 22 rfl rfl)
theorem dX4_ring_286 : decode cX4_ring 286 = .ok (.if_icmp .ge 21, 3) := dk_162 0 21 (dk_at dksX4_ring_12 0 rfl rfl)
theorem dX4_ring_289 : decode cX4_ring 289 = .ok (.aload_n 0, 1) := dk_42 (dk_at dksX4_ring_12 3 rfl rfl)
theorem dX4_ring_290 : decode cX4_ring 290 = .ok (.getfield 66, 3) := dk_180 0 66 (dk_at dksX4_ring_12 4 rfl rfl)
theorem dX4_ring_293 : decode cX4_ring 293 = .ok (.iload_n 2, 1) := dk_28 (dk_at dksX4_ring_12 7 rfl rfl)
theorem dX4_ring_294 : decode cX4_ring 294 = .ok (.aload_n 0, 1) := dk_42 (dk_at dksX4_ring_12 8 rfl rfl)
theorem dX4_ring_295 : decode cX4_ring 295 = .ok (.getfield 53, 3) := dk_180 0 53 (dk_at dksX4_ring_12 9 rfl rfl)
theorem dX4_ring_298 : decode cX4_ring 298 = .ok (.iload_n 2, 1) := dk_28 (dk_at dksX4_ring_12 12 rfl rfl)
theorem dX4_ring_299 : decode cX4_ring 299 = .ok (.iaload, 1) := dk_46 (dk_at dksX4_ring_12 13 rfl rfl)
theorem dX4_ring_300 : decode cX4_ring 300 = .ok (.iastore, 1) := dk_79 (dk_at dksX4_ring_12 14 rfl rfl)
theorem dX4_ring_301 : decode cX4_ring 301 = .ok (.iinc 2 1, 3) := dk_132 2 1 (dk_at dksX4_ring_12 15 rfl rfl)
theorem dX4_ring_304 : decode cX4_ring 304 = .ok (.goto (-21), 3) := dk_167 255 235 (dk_at dksX4_ring_12 18 rfl rfl)
theorem dX4_ring_307 : decode cX4_ring 307 = .ok (.aload_n 0, 1) := dk_42 (dk_at dksX4_ring_12 21 rfl rfl)
theorem dX4_ring_308 : decode cX4_ring 308 = .ok (.getfield 233, 3) := dk_180 0 233 (dk_at dksX4_ring_13 0 rfl rfl)
theorem dX4_ring_311 : decode cX4_ring 311 = .ok (.istore_n 2, 1) := dk_61 (dk_at dksX4_ring_13 3 rfl rfl)
theorem dX4_ring_312 : decode cX4_ring 312 = .ok (.iload_n 2, 1) := dk_28 (dk_at dksX4_ring_13 4 rfl rfl)
theorem dX4_ring_313 : decode cX4_ring 313 = .ok (.iconst 3, 1) := dk_6 (dk_at dksX4_ring_13 5 rfl rfl)
theorem dX4_ring_314 : decode cX4_ring 314 = .ok (.if_icmp .ge 20, 3) := dk_162 0 20 (dk_at dksX4_ring_13 6 rfl rfl)
theorem dX4_ring_317 : decode cX4_ring 317 = .ok (.aload_n 0, 1) := dk_42 (dk_at dksX4_ring_13 9 rfl rfl)
theorem dX4_ring_318 : decode cX4_ring 318 = .ok (.getfield 66, 3) := dk_180 0 66 (dk_at dksX4_ring_13 10 rfl rfl)
theorem dX4_ring_321 : decode cX4_ring 321 = .ok (.bipush 13, 2) := dk_16 13 (dk_at dksX4_ring_13 13 rfl rfl)
theorem dX4_ring_323 : decode cX4_ring 323 = .ok (.iload_n 2, 1) := dk_28 (dk_at dksX4_ring_13 15 rfl rfl)
theorem dX4_ring_324 : decode cX4_ring 324 = .ok (.iadd, 1) := dk_96 (dk_at dksX4_ring_13 16 rfl rfl)
theorem dX4_ring_325 : decode cX4_ring 325 = .ok (.bipush 50, 2) := dk_16 50 (dk_at dksX4_ring_13 17 rfl rfl)
theorem dX4_ring_327 : decode cX4_ring 327 = .ok (.iastore, 1) := dk_79 (dk_at dksX4_ring_13 19 rfl rfl)
theorem dX4_ring_328 : decode cX4_ring 328 = .ok (.iinc 2 1, 3) := dk_132 2 1 (dk_at dksX4_ring_13 20 rfl rfl)
theorem dX4_ring_331 : decode cX4_ring 331 = .ok (.goto (-19), 3) := dk_167 255 237 (dk_at dksX4_ring_14 0 rfl rfl)
theorem dX4_ring_334 : decode cX4_ring 334 = .ok (.aload_n 0, 1) := dk_42 (dk_at dksX4_ring_14 3 rfl rfl)
theorem dX4_ring_335 : decode cX4_ring 335 = .ok (.iconst 0, 1) := dk_3 (dk_at dksX4_ring_14 4 rfl rfl)
theorem dX4_ring_336 : decode cX4_ring 336 = .ok (.putfield 294, 3) := dk_181 1 38 (dk_at dksX4_ring_14 5 rfl rfl)
theorem dX4_ring_339 : decode cX4_ring 339 = .ok (.aload_n 0, 1) := dk_42 (dk_at dksX4_ring_14 8 rfl rfl)
theorem dX4_ring_340 : decode cX4_ring 340 = .ok (.iconst 0, 1) := dk_3 (dk_at dksX4_ring_14 9 rfl rfl)
theorem dX4_ring_341 : decode cX4_ring 341 = .ok (.putfield 297, 3) := dk_181 1 41 (dk_at dksX4_ring_14 10 rfl rfl)
theorem dX4_ring_344 : decode cX4_ring 344 = .ok (.aload_n 0, 1) := dk_42 (dk_at dksX4_ring_14 13 rfl rfl)
theorem dX4_ring_345 : decode cX4_ring 345 = .ok (.iconst 0, 1) := dk_3 (dk_at dksX4_ring_14 14 rfl rfl)
theorem dX4_ring_346 : decode cX4_ring 346 = .ok (.putfield 300, 3) := dk_181 1 44 (dk_at dksX4_ring_14 15 rfl rfl)
theorem dX4_ring_349 : decode cX4_ring 349 = .ok (.iconst 0, 1) := dk_3 (dk_at dksX4_ring_14 18 rfl rfl)
theorem dX4_ring_350 : decode cX4_ring 350 = .ok (.ireturn, 1) := dk_172 (dk_at dksX4_ring_14 19 rfl rfl)
abbrev cX4_fault : ByteArray := prog_12_method_41_code
def yX4_fault : MethodName := ⟨RX4, "fault", "()I"⟩
def dkwX4_fault_0 : List UInt8 := [42, 3, 181, 0, 117, 42, 180, 0, 38, 172]
abbrev dktX4_fault_0 : List UInt8 := dkwX4_fault_0 ++ []
theorem dksX4_fault_0 : cX4_fault.data.toList.drop 0 = dktX4_fault_0 := by decide +kernel
theorem dX4_fault_0 : decode cX4_fault 0 = .ok (.aload_n 0, 1) := dk_42 (dk_at dksX4_fault_0 0 rfl rfl)
theorem dX4_fault_1 : decode cX4_fault 1 = .ok (.iconst 0, 1) := dk_3 (dk_at dksX4_fault_0 1 rfl rfl)
theorem dX4_fault_2 : decode cX4_fault 2 = .ok (.putfield 117, 3) := dk_181 0 117 (dk_at dksX4_fault_0 2 rfl rfl)
theorem dX4_fault_5 : decode cX4_fault 5 = .ok (.aload_n 0, 1) := dk_42 (dk_at dksX4_fault_0 5 rfl rfl)
theorem dX4_fault_6 : decode cX4_fault 6 = .ok (.getfield 38, 3) := dk_180 0 38 (dk_at dksX4_fault_0 6 rfl rfl)
theorem dX4_fault_9 : decode cX4_fault 9 = .ok (.ireturn, 1) := dk_172 (dk_at dksX4_fault_0 9 rfl rfl)
abbrev cX4_undo : ByteArray := prog_12_method_44_code
def yX4_undo : MethodName := ⟨RX4, "undo", "()I"⟩
def dkwX4_undo_2 : List UInt8 := [27, 96, 46, 79, 132, 1, 1, 167, 255, 227, 42, 180, 1, 38, 172]
abbrev dktX4_undo_2 : List UInt8 := dkwX4_undo_2 ++ []
def dkwX4_undo_1 : List UInt8 := [3, 60, 27, 16, 49, 162, 0, 29, 42, 180, 0, 66, 27, 42, 180, 0, 69, 16, 49, 42, 180, 1, 38, 104]
abbrev dktX4_undo_1 : List UInt8 := dkwX4_undo_1 ++ dktX4_undo_2
def dkwX4_undo_0 : List UInt8 := [42, 3, 181, 0, 117, 42, 180, 1, 38, 154, 0, 5, 2, 172, 42, 89, 180, 1, 38, 4, 100, 181, 1, 38]
abbrev dktX4_undo_0 : List UInt8 := dkwX4_undo_0 ++ dktX4_undo_1
theorem dksX4_undo_0 : cX4_undo.data.toList.drop 0 = dktX4_undo_0 := by decide +kernel
theorem dksX4_undo_1 : cX4_undo.data.toList.drop 24 = dktX4_undo_1 := dk_seg dksX4_undo_0 24 rfl rfl
theorem dksX4_undo_2 : cX4_undo.data.toList.drop 48 = dktX4_undo_2 := dk_seg dksX4_undo_1 24 rfl rfl
theorem dX4_undo_0 : decode cX4_undo 0 = .ok (.aload_n 0, 1) := dk_42 (dk_at dksX4_undo_0 0 rfl rfl)
theorem dX4_undo_1 : decode cX4_undo 1 = .ok (.iconst 0, 1) := dk_3 (dk_at dksX4_undo_0 1 rfl rfl)
theorem dX4_undo_2 : decode cX4_undo 2 = .ok (.putfield 117, 3) := dk_181 0 117 (dk_at dksX4_undo_0 2 rfl rfl)
theorem dX4_undo_5 : decode cX4_undo 5 = .ok (.aload_n 0, 1) := dk_42 (dk_at dksX4_undo_0 5 rfl rfl)
theorem dX4_undo_6 : decode cX4_undo 6 = .ok (.getfield 294, 3) := dk_180 1 38 (dk_at dksX4_undo_0 6 rfl rfl)
theorem dX4_undo_9 : decode cX4_undo 9 = .ok (.ifCond .ne 5, 3) := dk_154 0 5 (dk_at dksX4_undo_0 9 rfl rfl)
theorem dX4_undo_12 : decode cX4_undo 12 = .ok (.iconst (-1), 1) := dk_2 (dk_at dksX4_undo_0 12 rfl rfl)
theorem dX4_undo_13 : decode cX4_undo 13 = .ok (.ireturn, 1) := dk_172 (dk_at dksX4_undo_0 13 rfl rfl)
theorem dX4_undo_14 : decode cX4_undo 14 = .ok (.aload_n 0, 1) := dk_42 (dk_at dksX4_undo_0 14 rfl rfl)
theorem dX4_undo_15 : decode cX4_undo 15 = .ok (.dup, 1) := dk_89 (dk_at dksX4_undo_0 15 rfl rfl)
theorem dX4_undo_16 : decode cX4_undo 16 = .ok (.getfield 294, 3) := dk_180 1 38 (dk_at dksX4_undo_0 16 rfl rfl)
theorem dX4_undo_19 : decode cX4_undo 19 = .ok (.iconst 1, 1) := dk_4 (dk_at dksX4_undo_0 19 rfl rfl)
theorem dX4_undo_20 : decode cX4_undo 20 = .ok (.isub, 1) := dk_100 (dk_at dksX4_undo_0 20 rfl rfl)
theorem dX4_undo_21 : decode cX4_undo 21 = .ok (.putfield 294, 3) := dk_181 1 38 (dk_at dksX4_undo_0 21 rfl rfl)
theorem dX4_undo_24 : decode cX4_undo 24 = .ok (.iconst 0, 1) := dk_3 (dk_at dksX4_undo_1 0 rfl rfl)
theorem dX4_undo_25 : decode cX4_undo 25 = .ok (.istore_n 1, 1) := dk_60 (dk_at dksX4_undo_1 1 rfl rfl)
theorem dX4_undo_26 : decode cX4_undo 26 = .ok (.iload_n 1, 1) := dk_27 (dk_at dksX4_undo_1 2 rfl rfl)
theorem dX4_undo_27 : decode cX4_undo 27 = .ok (.bipush 49, 2) := dk_16 49 (dk_at dksX4_undo_1 3 rfl rfl)
theorem dX4_undo_29 : decode cX4_undo 29 = .ok (.if_icmp .ge 29, 3) := dk_162 0 29 (dk_at dksX4_undo_1 5 rfl rfl)
theorem dX4_undo_32 : decode cX4_undo 32 = .ok (.aload_n 0, 1) := dk_42 (dk_at dksX4_undo_1 8 rfl rfl)
theorem dX4_undo_33 : decode cX4_undo 33 = .ok (.getfield 66, 3) := dk_180 0 66 (dk_at dksX4_undo_1 9 rfl rfl)
theorem dX4_undo_36 : decode cX4_undo 36 = .ok (.iload_n 1, 1) := dk_27 (dk_at dksX4_undo_1 12 rfl rfl)
theorem dX4_undo_37 : decode cX4_undo 37 = .ok (.aload_n 0, 1) := dk_42 (dk_at dksX4_undo_1 13 rfl rfl)
theorem dX4_undo_38 : decode cX4_undo 38 = .ok (.getfield 69, 3) := dk_180 0 69 (dk_at dksX4_undo_1 14 rfl rfl)
theorem dX4_undo_41 : decode cX4_undo 41 = .ok (.bipush 49, 2) := dk_16 49 (dk_at dksX4_undo_1 17 rfl rfl)
theorem dX4_undo_43 : decode cX4_undo 43 = .ok (.aload_n 0, 1) := dk_42 (dk_at dksX4_undo_1 19 rfl rfl)
theorem dX4_undo_44 : decode cX4_undo 44 = .ok (.getfield 294, 3) := dk_180 1 38 (dk_at dksX4_undo_1 20 rfl rfl)
theorem dX4_undo_47 : decode cX4_undo 47 = .ok (.imul, 1) := dk_104 (dk_at dksX4_undo_1 23 rfl rfl)
theorem dX4_undo_48 : decode cX4_undo 48 = .ok (.iload_n 1, 1) := dk_27 (dk_at dksX4_undo_2 0 rfl rfl)
theorem dX4_undo_49 : decode cX4_undo 49 = .ok (.iadd, 1) := dk_96 (dk_at dksX4_undo_2 1 rfl rfl)
theorem dX4_undo_50 : decode cX4_undo 50 = .ok (.iaload, 1) := dk_46 (dk_at dksX4_undo_2 2 rfl rfl)
theorem dX4_undo_51 : decode cX4_undo 51 = .ok (.iastore, 1) := dk_79 (dk_at dksX4_undo_2 3 rfl rfl)
theorem dX4_undo_52 : decode cX4_undo 52 = .ok (.iinc 1 1, 3) := dk_132 1 1 (dk_at dksX4_undo_2 4 rfl rfl)
theorem dX4_undo_55 : decode cX4_undo 55 = .ok (.goto (-29), 3) := dk_167 255 227 (dk_at dksX4_undo_2 7 rfl rfl)
theorem dX4_undo_58 : decode cX4_undo 58 = .ok (.aload_n 0, 1) := dk_42 (dk_at dksX4_undo_2 10 rfl rfl)
theorem dX4_undo_59 : decode cX4_undo 59 = .ok (.getfield 294, 3) := dk_180 1 38 (dk_at dksX4_undo_2 11 rfl rfl)
theorem dX4_undo_62 : decode cX4_undo 62 = .ok (.ireturn, 1) := dk_172 (dk_at dksX4_undo_2 14 rfl rfl)
abbrev cX4_womenAt : ByteArray := prog_12_method_51_code
def yX4_womenAt : MethodName := ⟨RX4, "womenAt", "(II)I"⟩
def dkwX4_womenAt_2 : List UInt8 := [29, 172]
abbrev dktX4_womenAt_2 : List UInt8 := dkwX4_womenAt_2 ++ []
def dkwX4_womenAt_1 : List UInt8 := [21, 4, 96, 46, 28, 160, 0, 10, 4, 21, 4, 120, 167, 0, 4, 3, 128, 62, 132, 4, 1, 167, 255, 217]
abbrev dktX4_womenAt_1 : List UInt8 := dkwX4_womenAt_1 ++ dktX4_womenAt_2
def dkwX4_womenAt_0 : List UInt8 := [3, 62, 3, 54, 4, 21, 4, 42, 180, 1, 28, 162, 0, 36, 29, 42, 180, 0, 66, 27, 16, 37, 96]
abbrev dktX4_womenAt_0 : List UInt8 := dkwX4_womenAt_0 ++ dktX4_womenAt_1
theorem dksX4_womenAt_0 : cX4_womenAt.data.toList.drop 0 = dktX4_womenAt_0 := by decide +kernel
theorem dksX4_womenAt_1 : cX4_womenAt.data.toList.drop 23 = dktX4_womenAt_1 := dk_seg dksX4_womenAt_0 23 rfl rfl
theorem dksX4_womenAt_2 : cX4_womenAt.data.toList.drop 47 = dktX4_womenAt_2 := dk_seg dksX4_womenAt_1 24 rfl rfl
theorem dX4_womenAt_0 : decode cX4_womenAt 0 = .ok (.iconst 0, 1) := dk_3 (dk_at dksX4_womenAt_0 0 rfl rfl)
theorem dX4_womenAt_1 : decode cX4_womenAt 1 = .ok (.istore_n 3, 1) := dk_62 (dk_at dksX4_womenAt_0 1 rfl rfl)
theorem dX4_womenAt_2 : decode cX4_womenAt 2 = .ok (.iconst 0, 1) := dk_3 (dk_at dksX4_womenAt_0 2 rfl rfl)
theorem dX4_womenAt_3 : decode cX4_womenAt 3 = .ok (.istore 4, 2) := dk_54 4 (dk_at dksX4_womenAt_0 3 rfl rfl)
theorem dX4_womenAt_5 : decode cX4_womenAt 5 = .ok (.iload 4, 2) := dk_21 4 (dk_at dksX4_womenAt_0 5 rfl rfl)
theorem dX4_womenAt_7 : decode cX4_womenAt 7 = .ok (.aload_n 0, 1) := dk_42 (dk_at dksX4_womenAt_0 7 rfl rfl)
theorem dX4_womenAt_8 : decode cX4_womenAt 8 = .ok (.getfield 284, 3) := dk_180 1 28 (dk_at dksX4_womenAt_0 8 rfl rfl)
theorem dX4_womenAt_11 : decode cX4_womenAt 11 = .ok (.if_icmp .ge 36, 3) := dk_162 0 36 (dk_at dksX4_womenAt_0 11 rfl rfl)
theorem dX4_womenAt_14 : decode cX4_womenAt 14 = .ok (.iload_n 3, 1) := dk_29 (dk_at dksX4_womenAt_0 14 rfl rfl)
theorem dX4_womenAt_15 : decode cX4_womenAt 15 = .ok (.aload_n 0, 1) := dk_42 (dk_at dksX4_womenAt_0 15 rfl rfl)
theorem dX4_womenAt_16 : decode cX4_womenAt 16 = .ok (.getfield 66, 3) := dk_180 0 66 (dk_at dksX4_womenAt_0 16 rfl rfl)
theorem dX4_womenAt_19 : decode cX4_womenAt 19 = .ok (.iload_n 1, 1) := dk_27 (dk_at dksX4_womenAt_0 19 rfl rfl)
theorem dX4_womenAt_20 : decode cX4_womenAt 20 = .ok (.bipush 37, 2) := dk_16 37 (dk_at dksX4_womenAt_0 20 rfl rfl)
theorem dX4_womenAt_22 : decode cX4_womenAt 22 = .ok (.iadd, 1) := dk_96 (dk_at dksX4_womenAt_0 22 rfl rfl)
theorem dX4_womenAt_23 : decode cX4_womenAt 23 = .ok (.iload 4, 2) := dk_21 4 (dk_at dksX4_womenAt_1 0 rfl rfl)
theorem dX4_womenAt_25 : decode cX4_womenAt 25 = .ok (.iadd, 1) := dk_96 (dk_at dksX4_womenAt_1 2 rfl rfl)
theorem dX4_womenAt_26 : decode cX4_womenAt 26 = .ok (.iaload, 1) := dk_46 (dk_at dksX4_womenAt_1 3 rfl rfl)
theorem dX4_womenAt_27 : decode cX4_womenAt 27 = .ok (.iload_n 2, 1) := dk_28 (dk_at dksX4_womenAt_1 4 rfl rfl)
theorem dX4_womenAt_28 : decode cX4_womenAt 28 = .ok (.if_icmp .ne 10, 3) := dk_160 0 10 (dk_at dksX4_womenAt_1 5 rfl rfl)
theorem dX4_womenAt_31 : decode cX4_womenAt 31 = .ok (.iconst 1, 1) := dk_4 (dk_at dksX4_womenAt_1 8 rfl rfl)
theorem dX4_womenAt_32 : decode cX4_womenAt 32 = .ok (.iload 4, 2) := dk_21 4 (dk_at dksX4_womenAt_1 9 rfl rfl)
theorem dX4_womenAt_34 : decode cX4_womenAt 34 = .ok (.ishl, 1) := dk_120 (dk_at dksX4_womenAt_1 11 rfl rfl)
theorem dX4_womenAt_35 : decode cX4_womenAt 35 = .ok (.goto 4, 3) := dk_167 0 4 (dk_at dksX4_womenAt_1 12 rfl rfl)
theorem dX4_womenAt_38 : decode cX4_womenAt 38 = .ok (.iconst 0, 1) := dk_3 (dk_at dksX4_womenAt_1 15 rfl rfl)
theorem dX4_womenAt_39 : decode cX4_womenAt 39 = .ok (.ior, 1) := dk_128 (dk_at dksX4_womenAt_1 16 rfl rfl)
theorem dX4_womenAt_40 : decode cX4_womenAt 40 = .ok (.istore_n 3, 1) := dk_62 (dk_at dksX4_womenAt_1 17 rfl rfl)
theorem dX4_womenAt_41 : decode cX4_womenAt 41 = .ok (.iinc 4 1, 3) := dk_132 4 1 (dk_at dksX4_womenAt_1 18 rfl rfl)
theorem dX4_womenAt_44 : decode cX4_womenAt 44 = .ok (.goto (-39), 3) := dk_167 255 217 (dk_at dksX4_womenAt_1 21 rfl rfl)
theorem dX4_womenAt_47 : decode cX4_womenAt 47 = .ok (.iload_n 3, 1) := dk_29 (dk_at dksX4_womenAt_2 0 rfl rfl)
theorem dX4_womenAt_48 : decode cX4_womenAt 48 = .ok (.ireturn, 1) := dk_172 (dk_at dksX4_womenAt_2 1 rfl rfl)
abbrev cX4_idle : ByteArray := prog_12_method_64_code
def yX4_idle : MethodName := ⟨RX4, "idle", "()I"⟩
def dkwX4_idle_2 : List UInt8 := [153, 0, 9, 4, 28, 120, 167, 0, 4, 3, 128, 60, 132, 2, 1, 167, 255, 200, 27, 172]
abbrev dktX4_idle_2 : List UInt8 := dkwX4_idle_2 ++ []
def dkwX4_idle_1 : List UInt8 := [153, 0, 26, 42, 3, 42, 180, 0, 66, 16, 37, 28, 96, 46, 182, 1, 61, 4, 28, 120, 4, 100, 126]
abbrev dktX4_idle_1 : List UInt8 := dkwX4_idle_1 ++ dktX4_idle_2
def dkwX4_idle_0 : List UInt8 := [3, 60, 3, 61, 28, 42, 180, 1, 28, 162, 0, 54, 27, 42, 180, 0, 66, 16, 43, 28, 96, 46]
abbrev dktX4_idle_0 : List UInt8 := dkwX4_idle_0 ++ dktX4_idle_1
theorem dksX4_idle_0 : cX4_idle.data.toList.drop 0 = dktX4_idle_0 := by decide +kernel
theorem dksX4_idle_1 : cX4_idle.data.toList.drop 22 = dktX4_idle_1 := dk_seg dksX4_idle_0 22 rfl rfl
theorem dksX4_idle_2 : cX4_idle.data.toList.drop 45 = dktX4_idle_2 := dk_seg dksX4_idle_1 23 rfl rfl
theorem dX4_idle_0 : decode cX4_idle 0 = .ok (.iconst 0, 1) := dk_3 (dk_at dksX4_idle_0 0 rfl rfl)
theorem dX4_idle_1 : decode cX4_idle 1 = .ok (.istore_n 1, 1) := dk_60 (dk_at dksX4_idle_0 1 rfl rfl)
theorem dX4_idle_2 : decode cX4_idle 2 = .ok (.iconst 0, 1) := dk_3 (dk_at dksX4_idle_0 2 rfl rfl)
theorem dX4_idle_3 : decode cX4_idle 3 = .ok (.istore_n 2, 1) := dk_61 (dk_at dksX4_idle_0 3 rfl rfl)
theorem dX4_idle_4 : decode cX4_idle 4 = .ok (.iload_n 2, 1) := dk_28 (dk_at dksX4_idle_0 4 rfl rfl)
theorem dX4_idle_5 : decode cX4_idle 5 = .ok (.aload_n 0, 1) := dk_42 (dk_at dksX4_idle_0 5 rfl rfl)
theorem dX4_idle_6 : decode cX4_idle 6 = .ok (.getfield 284, 3) := dk_180 1 28 (dk_at dksX4_idle_0 6 rfl rfl)
theorem dX4_idle_9 : decode cX4_idle 9 = .ok (.if_icmp .ge 54, 3) := dk_162 0 54 (dk_at dksX4_idle_0 9 rfl rfl)
theorem dX4_idle_12 : decode cX4_idle 12 = .ok (.iload_n 1, 1) := dk_27 (dk_at dksX4_idle_0 12 rfl rfl)
theorem dX4_idle_13 : decode cX4_idle 13 = .ok (.aload_n 0, 1) := dk_42 (dk_at dksX4_idle_0 13 rfl rfl)
theorem dX4_idle_14 : decode cX4_idle 14 = .ok (.getfield 66, 3) := dk_180 0 66 (dk_at dksX4_idle_0 14 rfl rfl)
theorem dX4_idle_17 : decode cX4_idle 17 = .ok (.bipush 43, 2) := dk_16 43 (dk_at dksX4_idle_0 17 rfl rfl)
theorem dX4_idle_19 : decode cX4_idle 19 = .ok (.iload_n 2, 1) := dk_28 (dk_at dksX4_idle_0 19 rfl rfl)
theorem dX4_idle_20 : decode cX4_idle 20 = .ok (.iadd, 1) := dk_96 (dk_at dksX4_idle_0 20 rfl rfl)
theorem dX4_idle_21 : decode cX4_idle 21 = .ok (.iaload, 1) := dk_46 (dk_at dksX4_idle_0 21 rfl rfl)
theorem dX4_idle_22 : decode cX4_idle 22 = .ok (.ifCond .eq 26, 3) := dk_153 0 26 (dk_at dksX4_idle_1 0 rfl rfl)
theorem dX4_idle_25 : decode cX4_idle 25 = .ok (.aload_n 0, 1) := dk_42 (dk_at dksX4_idle_1 3 rfl rfl)
theorem dX4_idle_26 : decode cX4_idle 26 = .ok (.iconst 0, 1) := dk_3 (dk_at dksX4_idle_1 4 rfl rfl)
theorem dX4_idle_27 : decode cX4_idle 27 = .ok (.aload_n 0, 1) := dk_42 (dk_at dksX4_idle_1 5 rfl rfl)
theorem dX4_idle_28 : decode cX4_idle 28 = .ok (.getfield 66, 3) := dk_180 0 66 (dk_at dksX4_idle_1 6 rfl rfl)
theorem dX4_idle_31 : decode cX4_idle 31 = .ok (.bipush 37, 2) := dk_16 37 (dk_at dksX4_idle_1 9 rfl rfl)
theorem dX4_idle_33 : decode cX4_idle 33 = .ok (.iload_n 2, 1) := dk_28 (dk_at dksX4_idle_1 11 rfl rfl)
theorem dX4_idle_34 : decode cX4_idle 34 = .ok (.iadd, 1) := dk_96 (dk_at dksX4_idle_1 12 rfl rfl)
theorem dX4_idle_35 : decode cX4_idle 35 = .ok (.iaload, 1) := dk_46 (dk_at dksX4_idle_1 13 rfl rfl)
theorem dX4_idle_36 : decode cX4_idle 36 = .ok (.invokevirtual 317, 3) := dk_182 1 61 (dk_at dksX4_idle_1 14 rfl rfl)
theorem dX4_idle_39 : decode cX4_idle 39 = .ok (.iconst 1, 1) := dk_4 (dk_at dksX4_idle_1 17 rfl rfl)
theorem dX4_idle_40 : decode cX4_idle 40 = .ok (.iload_n 2, 1) := dk_28 (dk_at dksX4_idle_1 18 rfl rfl)
theorem dX4_idle_41 : decode cX4_idle 41 = .ok (.ishl, 1) := dk_120 (dk_at dksX4_idle_1 19 rfl rfl)
theorem dX4_idle_42 : decode cX4_idle 42 = .ok (.iconst 1, 1) := dk_4 (dk_at dksX4_idle_1 20 rfl rfl)
theorem dX4_idle_43 : decode cX4_idle 43 = .ok (.isub, 1) := dk_100 (dk_at dksX4_idle_1 21 rfl rfl)
theorem dX4_idle_44 : decode cX4_idle 44 = .ok (.iand, 1) := dk_126 (dk_at dksX4_idle_1 22 rfl rfl)
theorem dX4_idle_45 : decode cX4_idle 45 = .ok (.ifCond .eq 9, 3) := dk_153 0 9 (dk_at dksX4_idle_2 0 rfl rfl)
theorem dX4_idle_48 : decode cX4_idle 48 = .ok (.iconst 1, 1) := dk_4 (dk_at dksX4_idle_2 3 rfl rfl)
theorem dX4_idle_49 : decode cX4_idle 49 = .ok (.iload_n 2, 1) := dk_28 (dk_at dksX4_idle_2 4 rfl rfl)
theorem dX4_idle_50 : decode cX4_idle 50 = .ok (.ishl, 1) := dk_120 (dk_at dksX4_idle_2 5 rfl rfl)
theorem dX4_idle_51 : decode cX4_idle 51 = .ok (.goto 4, 3) := dk_167 0 4 (dk_at dksX4_idle_2 6 rfl rfl)
theorem dX4_idle_54 : decode cX4_idle 54 = .ok (.iconst 0, 1) := dk_3 (dk_at dksX4_idle_2 9 rfl rfl)
theorem dX4_idle_55 : decode cX4_idle 55 = .ok (.ior, 1) := dk_128 (dk_at dksX4_idle_2 10 rfl rfl)
theorem dX4_idle_56 : decode cX4_idle 56 = .ok (.istore_n 1, 1) := dk_60 (dk_at dksX4_idle_2 11 rfl rfl)
theorem dX4_idle_57 : decode cX4_idle 57 = .ok (.iinc 2 1, 3) := dk_132 2 1 (dk_at dksX4_idle_2 12 rfl rfl)
theorem dX4_idle_60 : decode cX4_idle 60 = .ok (.goto (-56), 3) := dk_167 255 200 (dk_at dksX4_idle_2 15 rfl rfl)
theorem dX4_idle_63 : decode cX4_idle 63 = .ok (.iload_n 1, 1) := dk_27 (dk_at dksX4_idle_2 18 rfl rfl)
theorem dX4_idle_64 : decode cX4_idle 64 = .ok (.ireturn, 1) := dk_172 (dk_at dksX4_idle_2 19 rfl rfl)
abbrev cX4_isGap : ByteArray := prog_12_method_50_code
def yX4_isGap : MethodName := ⟨RX4, "isGap", "(II)Z"⟩
def dkwX4_isGap_0 : List UInt8 := [42, 180, 0, 66, 27, 16, 13, 96, 28, 96, 46, 154, 0, 7, 4, 167, 0, 4, 3, 172]
abbrev dktX4_isGap_0 : List UInt8 := dkwX4_isGap_0 ++ []
theorem dksX4_isGap_0 : cX4_isGap.data.toList.drop 0 = dktX4_isGap_0 := by decide +kernel
theorem dX4_isGap_0 : decode cX4_isGap 0 = .ok (.aload_n 0, 1) := dk_42 (dk_at dksX4_isGap_0 0 rfl rfl)
theorem dX4_isGap_1 : decode cX4_isGap 1 = .ok (.getfield 66, 3) := dk_180 0 66 (dk_at dksX4_isGap_0 1 rfl rfl)
theorem dX4_isGap_4 : decode cX4_isGap 4 = .ok (.iload_n 1, 1) := dk_27 (dk_at dksX4_isGap_0 4 rfl rfl)
theorem dX4_isGap_5 : decode cX4_isGap 5 = .ok (.bipush 13, 2) := dk_16 13 (dk_at dksX4_isGap_0 5 rfl rfl)
theorem dX4_isGap_7 : decode cX4_isGap 7 = .ok (.iadd, 1) := dk_96 (dk_at dksX4_isGap_0 7 rfl rfl)
theorem dX4_isGap_8 : decode cX4_isGap 8 = .ok (.iload_n 2, 1) := dk_28 (dk_at dksX4_isGap_0 8 rfl rfl)
theorem dX4_isGap_9 : decode cX4_isGap 9 = .ok (.iadd, 1) := dk_96 (dk_at dksX4_isGap_0 9 rfl rfl)
theorem dX4_isGap_10 : decode cX4_isGap 10 = .ok (.iaload, 1) := dk_46 (dk_at dksX4_isGap_0 10 rfl rfl)
theorem dX4_isGap_11 : decode cX4_isGap 11 = .ok (.ifCond .ne 7, 3) := dk_154 0 7 (dk_at dksX4_isGap_0 11 rfl rfl)
theorem dX4_isGap_14 : decode cX4_isGap 14 = .ok (.iconst 1, 1) := dk_4 (dk_at dksX4_isGap_0 14 rfl rfl)
theorem dX4_isGap_15 : decode cX4_isGap 15 = .ok (.goto 4, 3) := dk_167 0 4 (dk_at dksX4_isGap_0 15 rfl rfl)
theorem dX4_isGap_18 : decode cX4_isGap 18 = .ok (.iconst 0, 1) := dk_3 (dk_at dksX4_isGap_0 18 rfl rfl)
theorem dX4_isGap_19 : decode cX4_isGap 19 = .ok (.ireturn, 1) := dk_172 (dk_at dksX4_isGap_0 19 rfl rfl)
abbrev cX4_openOnes : ByteArray := prog_12_method_62_code
def yX4_openOnes : MethodName := ⟨RX4, "openOnes", "(I)I"⟩
def dkwX4_openOnes_1 : List UInt8 := [120, 167, 0, 4, 3, 128, 61, 132, 3, 1, 167, 255, 226, 28, 172]
abbrev dktX4_openOnes_1 : List UInt8 := dkwX4_openOnes_1 ++ []
def dkwX4_openOnes_0 : List UInt8 := [3, 61, 3, 62, 29, 42, 180, 0, 7, 162, 0, 28, 28, 42, 27, 29, 182, 1, 70, 153, 0, 9, 4, 29]
abbrev dktX4_openOnes_0 : List UInt8 := dkwX4_openOnes_0 ++ dktX4_openOnes_1
theorem dksX4_openOnes_0 : cX4_openOnes.data.toList.drop 0 = dktX4_openOnes_0 := by decide +kernel
theorem dksX4_openOnes_1 : cX4_openOnes.data.toList.drop 24 = dktX4_openOnes_1 := dk_seg dksX4_openOnes_0 24 rfl rfl
theorem dX4_openOnes_0 : decode cX4_openOnes 0 = .ok (.iconst 0, 1) := dk_3 (dk_at dksX4_openOnes_0 0 rfl rfl)
theorem dX4_openOnes_1 : decode cX4_openOnes 1 = .ok (.istore_n 2, 1) := dk_61 (dk_at dksX4_openOnes_0 1 rfl rfl)
theorem dX4_openOnes_2 : decode cX4_openOnes 2 = .ok (.iconst 0, 1) := dk_3 (dk_at dksX4_openOnes_0 2 rfl rfl)
theorem dX4_openOnes_3 : decode cX4_openOnes 3 = .ok (.istore_n 3, 1) := dk_62 (dk_at dksX4_openOnes_0 3 rfl rfl)
theorem dX4_openOnes_4 : decode cX4_openOnes 4 = .ok (.iload_n 3, 1) := dk_29 (dk_at dksX4_openOnes_0 4 rfl rfl)
theorem dX4_openOnes_5 : decode cX4_openOnes 5 = .ok (.aload_n 0, 1) := dk_42 (dk_at dksX4_openOnes_0 5 rfl rfl)
theorem dX4_openOnes_6 : decode cX4_openOnes 6 = .ok (.getfield 7, 3) := dk_180 0 7 (dk_at dksX4_openOnes_0 6 rfl rfl)
theorem dX4_openOnes_9 : decode cX4_openOnes 9 = .ok (.if_icmp .ge 28, 3) := dk_162 0 28 (dk_at dksX4_openOnes_0 9 rfl rfl)
theorem dX4_openOnes_12 : decode cX4_openOnes 12 = .ok (.iload_n 2, 1) := dk_28 (dk_at dksX4_openOnes_0 12 rfl rfl)
theorem dX4_openOnes_13 : decode cX4_openOnes 13 = .ok (.aload_n 0, 1) := dk_42 (dk_at dksX4_openOnes_0 13 rfl rfl)
theorem dX4_openOnes_14 : decode cX4_openOnes 14 = .ok (.iload_n 1, 1) := dk_27 (dk_at dksX4_openOnes_0 14 rfl rfl)
theorem dX4_openOnes_15 : decode cX4_openOnes 15 = .ok (.iload_n 3, 1) := dk_29 (dk_at dksX4_openOnes_0 15 rfl rfl)
theorem dX4_openOnes_16 : decode cX4_openOnes 16 = .ok (.invokevirtual 326, 3) := dk_182 1 70 (dk_at dksX4_openOnes_0 16 rfl rfl)
theorem dX4_openOnes_19 : decode cX4_openOnes 19 = .ok (.ifCond .eq 9, 3) := dk_153 0 9 (dk_at dksX4_openOnes_0 19 rfl rfl)
theorem dX4_openOnes_22 : decode cX4_openOnes 22 = .ok (.iconst 1, 1) := dk_4 (dk_at dksX4_openOnes_0 22 rfl rfl)
theorem dX4_openOnes_23 : decode cX4_openOnes 23 = .ok (.iload_n 3, 1) := dk_29 (dk_at dksX4_openOnes_0 23 rfl rfl)
theorem dX4_openOnes_24 : decode cX4_openOnes 24 = .ok (.ishl, 1) := dk_120 (dk_at dksX4_openOnes_1 0 rfl rfl)
theorem dX4_openOnes_25 : decode cX4_openOnes 25 = .ok (.goto 4, 3) := dk_167 0 4 (dk_at dksX4_openOnes_1 1 rfl rfl)
theorem dX4_openOnes_28 : decode cX4_openOnes 28 = .ok (.iconst 0, 1) := dk_3 (dk_at dksX4_openOnes_1 4 rfl rfl)
theorem dX4_openOnes_29 : decode cX4_openOnes 29 = .ok (.ior, 1) := dk_128 (dk_at dksX4_openOnes_1 5 rfl rfl)
theorem dX4_openOnes_30 : decode cX4_openOnes 30 = .ok (.istore_n 2, 1) := dk_61 (dk_at dksX4_openOnes_1 6 rfl rfl)
theorem dX4_openOnes_31 : decode cX4_openOnes 31 = .ok (.iinc 3 1, 3) := dk_132 3 1 (dk_at dksX4_openOnes_1 7 rfl rfl)
theorem dX4_openOnes_34 : decode cX4_openOnes 34 = .ok (.goto (-30), 3) := dk_167 255 226 (dk_at dksX4_openOnes_1 10 rfl rfl)
theorem dX4_openOnes_37 : decode cX4_openOnes 37 = .ok (.iload_n 2, 1) := dk_28 (dk_at dksX4_openOnes_1 13 rfl rfl)
theorem dX4_openOnes_38 : decode cX4_openOnes 38 = .ok (.ireturn, 1) := dk_172 (dk_at dksX4_openOnes_1 14 rfl rfl)
abbrev cX4_sumOf : ByteArray := prog_12_method_63_code
def yX4_sumOf : MethodName := ⟨RX4, "sumOf", "(III)I"⟩
def dkwX4_sumOf_1 : List UInt8 := [46, 96, 54, 4, 132, 5, 1, 167, 255, 231, 21, 4, 172]
abbrev dktX4_sumOf_1 : List UInt8 := dkwX4_sumOf_1 ++ []
def dkwX4_sumOf_0 : List UInt8 := [3, 54, 4, 3, 54, 5, 21, 5, 29, 162, 0, 25, 21, 4, 42, 180, 0, 66, 27, 28, 96, 21, 5, 96]
abbrev dktX4_sumOf_0 : List UInt8 := dkwX4_sumOf_0 ++ dktX4_sumOf_1
theorem dksX4_sumOf_0 : cX4_sumOf.data.toList.drop 0 = dktX4_sumOf_0 := by decide +kernel
theorem dksX4_sumOf_1 : cX4_sumOf.data.toList.drop 24 = dktX4_sumOf_1 := dk_seg dksX4_sumOf_0 24 rfl rfl
theorem dX4_sumOf_0 : decode cX4_sumOf 0 = .ok (.iconst 0, 1) := dk_3 (dk_at dksX4_sumOf_0 0 rfl rfl)
theorem dX4_sumOf_1 : decode cX4_sumOf 1 = .ok (.istore 4, 2) := dk_54 4 (dk_at dksX4_sumOf_0 1 rfl rfl)
theorem dX4_sumOf_3 : decode cX4_sumOf 3 = .ok (.iconst 0, 1) := dk_3 (dk_at dksX4_sumOf_0 3 rfl rfl)
theorem dX4_sumOf_4 : decode cX4_sumOf 4 = .ok (.istore 5, 2) := dk_54 5 (dk_at dksX4_sumOf_0 4 rfl rfl)
theorem dX4_sumOf_6 : decode cX4_sumOf 6 = .ok (.iload 5, 2) := dk_21 5 (dk_at dksX4_sumOf_0 6 rfl rfl)
theorem dX4_sumOf_8 : decode cX4_sumOf 8 = .ok (.iload_n 3, 1) := dk_29 (dk_at dksX4_sumOf_0 8 rfl rfl)
theorem dX4_sumOf_9 : decode cX4_sumOf 9 = .ok (.if_icmp .ge 25, 3) := dk_162 0 25 (dk_at dksX4_sumOf_0 9 rfl rfl)
theorem dX4_sumOf_12 : decode cX4_sumOf 12 = .ok (.iload 4, 2) := dk_21 4 (dk_at dksX4_sumOf_0 12 rfl rfl)
theorem dX4_sumOf_14 : decode cX4_sumOf 14 = .ok (.aload_n 0, 1) := dk_42 (dk_at dksX4_sumOf_0 14 rfl rfl)
theorem dX4_sumOf_15 : decode cX4_sumOf 15 = .ok (.getfield 66, 3) := dk_180 0 66 (dk_at dksX4_sumOf_0 15 rfl rfl)
theorem dX4_sumOf_18 : decode cX4_sumOf 18 = .ok (.iload_n 1, 1) := dk_27 (dk_at dksX4_sumOf_0 18 rfl rfl)
theorem dX4_sumOf_19 : decode cX4_sumOf 19 = .ok (.iload_n 2, 1) := dk_28 (dk_at dksX4_sumOf_0 19 rfl rfl)
theorem dX4_sumOf_20 : decode cX4_sumOf 20 = .ok (.iadd, 1) := dk_96 (dk_at dksX4_sumOf_0 20 rfl rfl)
theorem dX4_sumOf_21 : decode cX4_sumOf 21 = .ok (.iload 5, 2) := dk_21 5 (dk_at dksX4_sumOf_0 21 rfl rfl)
theorem dX4_sumOf_23 : decode cX4_sumOf 23 = .ok (.iadd, 1) := dk_96 (dk_at dksX4_sumOf_0 23 rfl rfl)
theorem dX4_sumOf_24 : decode cX4_sumOf 24 = .ok (.iaload, 1) := dk_46 (dk_at dksX4_sumOf_1 0 rfl rfl)
theorem dX4_sumOf_25 : decode cX4_sumOf 25 = .ok (.iadd, 1) := dk_96 (dk_at dksX4_sumOf_1 1 rfl rfl)
theorem dX4_sumOf_26 : decode cX4_sumOf 26 = .ok (.istore 4, 2) := dk_54 4 (dk_at dksX4_sumOf_1 2 rfl rfl)
theorem dX4_sumOf_28 : decode cX4_sumOf 28 = .ok (.iinc 5 1, 3) := dk_132 5 1 (dk_at dksX4_sumOf_1 4 rfl rfl)
theorem dX4_sumOf_31 : decode cX4_sumOf 31 = .ok (.goto (-25), 3) := dk_167 255 231 (dk_at dksX4_sumOf_1 7 rfl rfl)
theorem dX4_sumOf_34 : decode cX4_sumOf 34 = .ok (.iload 4, 2) := dk_21 4 (dk_at dksX4_sumOf_1 10 rfl rfl)
theorem dX4_sumOf_36 : decode cX4_sumOf 36 = .ok (.ireturn, 1) := dk_172 (dk_at dksX4_sumOf_1 12 rfl rfl)
abbrev cX4_within : ByteArray := prog_12_method_4_code
def yX4_within : MethodName := ⟨RX4, "within", "(III)Z"⟩
def dkwX4_within_0 : List UInt8 := [26, 27, 161, 0, 12, 26, 28, 163, 0, 7, 4, 167, 0, 4, 3, 172]
abbrev dktX4_within_0 : List UInt8 := dkwX4_within_0 ++ []
theorem dksX4_within_0 : cX4_within.data.toList.drop 0 = dktX4_within_0 := by decide +kernel
theorem dX4_within_0 : decode cX4_within 0 = .ok (.iload_n 0, 1) := dk_26 (dk_at dksX4_within_0 0 rfl rfl)
theorem dX4_within_1 : decode cX4_within 1 = .ok (.iload_n 1, 1) := dk_27 (dk_at dksX4_within_0 1 rfl rfl)
theorem dX4_within_2 : decode cX4_within 2 = .ok (.if_icmp .lt 12, 3) := dk_161 0 12 (dk_at dksX4_within_0 2 rfl rfl)
theorem dX4_within_5 : decode cX4_within 5 = .ok (.iload_n 0, 1) := dk_26 (dk_at dksX4_within_0 5 rfl rfl)
theorem dX4_within_6 : decode cX4_within 6 = .ok (.iload_n 2, 1) := dk_28 (dk_at dksX4_within_0 6 rfl rfl)
theorem dX4_within_7 : decode cX4_within 7 = .ok (.if_icmp .gt 7, 3) := dk_163 0 7 (dk_at dksX4_within_0 7 rfl rfl)
theorem dX4_within_10 : decode cX4_within 10 = .ok (.iconst 1, 1) := dk_4 (dk_at dksX4_within_0 10 rfl rfl)
theorem dX4_within_11 : decode cX4_within 11 = .ok (.goto 4, 3) := dk_167 0 4 (dk_at dksX4_within_0 11 rfl rfl)
theorem dX4_within_14 : decode cX4_within 14 = .ok (.iconst 0, 1) := dk_3 (dk_at dksX4_within_0 14 rfl rfl)
theorem dX4_within_15 : decode cX4_within 15 = .ok (.ireturn, 1) := dk_172 (dk_at dksX4_within_0 15 rfl rfl)
abbrev cX4_count : ByteArray := prog_12_method_65_code
def yX4_count : MethodName := ⟨RX4, "count", "(I)I"⟩
def dkwX4_count_5 : List UInt8 := [172, 42, 180, 0, 120, 172, 42, 180, 0, 41, 27, 16, 12, 100, 46, 172]
abbrev dktX4_count_5 : List UInt8 := dkwX4_count_5 ++ []
def dkwX4_count_4 : List UInt8 := [16, 43, 42, 180, 1, 28, 182, 1, 113, 172, 42, 182, 1, 116, 172, 42, 180, 1, 38, 172, 42, 180, 1, 41]
abbrev dktX4_count_4 : List UInt8 := dkwX4_count_4 ++ dktX4_count_5
def dkwX4_count_3 : List UInt8 := [3, 46, 172, 42, 3, 182, 1, 110, 172, 42, 3, 16, 13, 42, 180, 0, 7, 182, 1, 113, 172, 42, 3]
abbrev dktX4_count_3 : List UInt8 := dkwX4_count_3 ++ dktX4_count_4
def dkwX4_count_2 : List UInt8 := [42, 180, 0, 7, 172, 42, 180, 1, 28, 172, 42, 180, 1, 31, 172, 42, 180, 0, 13, 172, 42, 180, 0, 66]
abbrev dktX4_count_2 : List UInt8 := dkwX4_count_2 ++ dktX4_count_3
def dkwX4_count_1 : List UInt8 := [170, 0, 0, 0, 138, 0, 0, 0, 0, 0, 0, 0, 11, 0, 0, 0, 61, 0, 0, 0, 66, 0, 0, 0, 71, 0, 0, 0, 76, 0, 0, 0, 81, 0, 0, 0, 88, 0, 0, 0, 94, 0, 0, 0, 106, 0, 0, 0, 118, 0, 0, 0, 123, 0, 0, 0, 128, 0, 0, 0, 133]
abbrev dktX4_count_1 : List UInt8 := dkwX4_count_1 ++ dktX4_count_2
def dkwX4_count_0 : List UInt8 := [42, 3, 181, 0, 117, 42, 27, 3, 16, 14, 184, 1, 106, 4, 182, 1, 21, 154, 0, 5, 3, 172, 27]
abbrev dktX4_count_0 : List UInt8 := dkwX4_count_0 ++ dktX4_count_1
theorem dksX4_count_0 : cX4_count.data.toList.drop 0 = dktX4_count_0 := by decide +kernel
theorem dksX4_count_1 : cX4_count.data.toList.drop 23 = dktX4_count_1 := dk_seg dksX4_count_0 23 rfl rfl
theorem dksX4_count_2 : cX4_count.data.toList.drop 84 = dktX4_count_2 := dk_seg dksX4_count_1 61 rfl rfl
theorem dksX4_count_3 : cX4_count.data.toList.drop 108 = dktX4_count_3 := dk_seg dksX4_count_2 24 rfl rfl
theorem dksX4_count_4 : cX4_count.data.toList.drop 131 = dktX4_count_4 := dk_seg dksX4_count_3 23 rfl rfl
theorem dksX4_count_5 : cX4_count.data.toList.drop 155 = dktX4_count_5 := dk_seg dksX4_count_4 24 rfl rfl
theorem dX4_count_0 : decode cX4_count 0 = .ok (.aload_n 0, 1) := dk_42 (dk_at dksX4_count_0 0 rfl rfl)
theorem dX4_count_1 : decode cX4_count 1 = .ok (.iconst 0, 1) := dk_3 (dk_at dksX4_count_0 1 rfl rfl)
theorem dX4_count_2 : decode cX4_count 2 = .ok (.putfield 117, 3) := dk_181 0 117 (dk_at dksX4_count_0 2 rfl rfl)
theorem dX4_count_5 : decode cX4_count 5 = .ok (.aload_n 0, 1) := dk_42 (dk_at dksX4_count_0 5 rfl rfl)
theorem dX4_count_6 : decode cX4_count 6 = .ok (.iload_n 1, 1) := dk_27 (dk_at dksX4_count_0 6 rfl rfl)
theorem dX4_count_7 : decode cX4_count 7 = .ok (.iconst 0, 1) := dk_3 (dk_at dksX4_count_0 7 rfl rfl)
theorem dX4_count_8 : decode cX4_count 8 = .ok (.bipush 14, 2) := dk_16 14 (dk_at dksX4_count_0 8 rfl rfl)
theorem dX4_count_10 : decode cX4_count 10 = .ok (.invokestatic 362, 3) := dk_184 1 106 (dk_at dksX4_count_0 10 rfl rfl)
theorem dX4_count_13 : decode cX4_count 13 = .ok (.iconst 1, 1) := dk_4 (dk_at dksX4_count_0 13 rfl rfl)
theorem dX4_count_14 : decode cX4_count 14 = .ok (.invokevirtual 277, 3) := dk_182 1 21 (dk_at dksX4_count_0 14 rfl rfl)
theorem dX4_count_17 : decode cX4_count 17 = .ok (.ifCond .ne 5, 3) := dk_154 0 5 (dk_at dksX4_count_0 17 rfl rfl)
theorem dX4_count_20 : decode cX4_count 20 = .ok (.iconst 0, 1) := dk_3 (dk_at dksX4_count_0 20 rfl rfl)
theorem dX4_count_21 : decode cX4_count 21 = .ok (.ireturn, 1) := dk_172 (dk_at dksX4_count_0 21 rfl rfl)
theorem dX4_count_22 : decode cX4_count 22 = .ok (.iload_n 1, 1) := dk_27 (dk_at dksX4_count_0 22 rfl rfl)
theorem dX4_count_23 : decode cX4_count 23 = .ok (.tableswitch 138 0 11 #[61, 66, 71, 76, 81, 88, 94, 106, 118, 123, 128, 133], 61) := by decide +kernel
theorem dX4_count_84 : decode cX4_count 84 = .ok (.aload_n 0, 1) := dk_42 (dk_at dksX4_count_2 0 rfl rfl)
theorem dX4_count_85 : decode cX4_count 85 = .ok (.getfield 7, 3) := dk_180 0 7 (dk_at dksX4_count_2 1 rfl rfl)
theorem dX4_count_88 : decode cX4_count 88 = .ok (.ireturn, 1) := dk_172 (dk_at dksX4_count_2 4 rfl rfl)
theorem dX4_count_89 : decode cX4_count 89 = .ok (.aload_n 0, 1) := dk_42 (dk_at dksX4_count_2 5 rfl rfl)
theorem dX4_count_90 : decode cX4_count 90 = .ok (.getfield 284, 3) := dk_180 1 28 (dk_at dksX4_count_2 6 rfl rfl)
theorem dX4_count_93 : decode cX4_count 93 = .ok (.ireturn, 1) := dk_172 (dk_at dksX4_count_2 9 rfl rfl)
theorem dX4_count_94 : decode cX4_count 94 = .ok (.aload_n 0, 1) := dk_42 (dk_at dksX4_count_2 10 rfl rfl)
theorem dX4_count_95 : decode cX4_count 95 = .ok (.getfield 287, 3) := dk_180 1 31 (dk_at dksX4_count_2 11 rfl rfl)
theorem dX4_count_98 : decode cX4_count 98 = .ok (.ireturn, 1) := dk_172 (dk_at dksX4_count_2 14 rfl rfl)
theorem dX4_count_99 : decode cX4_count 99 = .ok (.aload_n 0, 1) := dk_42 (dk_at dksX4_count_2 15 rfl rfl)
theorem dX4_count_100 : decode cX4_count 100 = .ok (.getfield 13, 3) := dk_180 0 13 (dk_at dksX4_count_2 16 rfl rfl)
theorem dX4_count_103 : decode cX4_count 103 = .ok (.ireturn, 1) := dk_172 (dk_at dksX4_count_2 19 rfl rfl)
theorem dX4_count_104 : decode cX4_count 104 = .ok (.aload_n 0, 1) := dk_42 (dk_at dksX4_count_2 20 rfl rfl)
theorem dX4_count_105 : decode cX4_count 105 = .ok (.getfield 66, 3) := dk_180 0 66 (dk_at dksX4_count_2 21 rfl rfl)
theorem dX4_count_108 : decode cX4_count 108 = .ok (.iconst 0, 1) := dk_3 (dk_at dksX4_count_3 0 rfl rfl)
theorem dX4_count_109 : decode cX4_count 109 = .ok (.iaload, 1) := dk_46 (dk_at dksX4_count_3 1 rfl rfl)
theorem dX4_count_110 : decode cX4_count 110 = .ok (.ireturn, 1) := dk_172 (dk_at dksX4_count_3 2 rfl rfl)
theorem dX4_count_111 : decode cX4_count 111 = .ok (.aload_n 0, 1) := dk_42 (dk_at dksX4_count_3 3 rfl rfl)
theorem dX4_count_112 : decode cX4_count 112 = .ok (.iconst 0, 1) := dk_3 (dk_at dksX4_count_3 4 rfl rfl)
theorem dX4_count_113 : decode cX4_count 113 = .ok (.invokevirtual 366, 3) := dk_182 1 110 (dk_at dksX4_count_3 5 rfl rfl)
theorem dX4_count_116 : decode cX4_count 116 = .ok (.ireturn, 1) := dk_172 (dk_at dksX4_count_3 8 rfl rfl)
theorem dX4_count_117 : decode cX4_count 117 = .ok (.aload_n 0, 1) := dk_42 (dk_at dksX4_count_3 9 rfl rfl)
theorem dX4_count_118 : decode cX4_count 118 = .ok (.iconst 0, 1) := dk_3 (dk_at dksX4_count_3 10 rfl rfl)
theorem dX4_count_119 : decode cX4_count 119 = .ok (.bipush 13, 2) := dk_16 13 (dk_at dksX4_count_3 11 rfl rfl)
theorem dX4_count_121 : decode cX4_count 121 = .ok (.aload_n 0, 1) := dk_42 (dk_at dksX4_count_3 13 rfl rfl)
theorem dX4_count_122 : decode cX4_count 122 = .ok (.getfield 7, 3) := dk_180 0 7 (dk_at dksX4_count_3 14 rfl rfl)
theorem dX4_count_125 : decode cX4_count 125 = .ok (.invokevirtual 369, 3) := dk_182 1 113 (dk_at dksX4_count_3 17 rfl rfl)
theorem dX4_count_128 : decode cX4_count 128 = .ok (.ireturn, 1) := dk_172 (dk_at dksX4_count_3 20 rfl rfl)
theorem dX4_count_129 : decode cX4_count 129 = .ok (.aload_n 0, 1) := dk_42 (dk_at dksX4_count_3 21 rfl rfl)
theorem dX4_count_130 : decode cX4_count 130 = .ok (.iconst 0, 1) := dk_3 (dk_at dksX4_count_3 22 rfl rfl)
theorem dX4_count_131 : decode cX4_count 131 = .ok (.bipush 43, 2) := dk_16 43 (dk_at dksX4_count_4 0 rfl rfl)
theorem dX4_count_133 : decode cX4_count 133 = .ok (.aload_n 0, 1) := dk_42 (dk_at dksX4_count_4 2 rfl rfl)
theorem dX4_count_134 : decode cX4_count 134 = .ok (.getfield 284, 3) := dk_180 1 28 (dk_at dksX4_count_4 3 rfl rfl)
theorem dX4_count_137 : decode cX4_count 137 = .ok (.invokevirtual 369, 3) := dk_182 1 113 (dk_at dksX4_count_4 6 rfl rfl)
theorem dX4_count_140 : decode cX4_count 140 = .ok (.ireturn, 1) := dk_172 (dk_at dksX4_count_4 9 rfl rfl)
theorem dX4_count_141 : decode cX4_count 141 = .ok (.aload_n 0, 1) := dk_42 (dk_at dksX4_count_4 10 rfl rfl)
theorem dX4_count_142 : decode cX4_count 142 = .ok (.invokevirtual 372, 3) := dk_182 1 116 (dk_at dksX4_count_4 11 rfl rfl)
theorem dX4_count_145 : decode cX4_count 145 = .ok (.ireturn, 1) := dk_172 (dk_at dksX4_count_4 14 rfl rfl)
theorem dX4_count_146 : decode cX4_count 146 = .ok (.aload_n 0, 1) := dk_42 (dk_at dksX4_count_4 15 rfl rfl)
theorem dX4_count_147 : decode cX4_count 147 = .ok (.getfield 294, 3) := dk_180 1 38 (dk_at dksX4_count_4 16 rfl rfl)
theorem dX4_count_150 : decode cX4_count 150 = .ok (.ireturn, 1) := dk_172 (dk_at dksX4_count_4 19 rfl rfl)
theorem dX4_count_151 : decode cX4_count 151 = .ok (.aload_n 0, 1) := dk_42 (dk_at dksX4_count_4 20 rfl rfl)
theorem dX4_count_152 : decode cX4_count 152 = .ok (.getfield 297, 3) := dk_180 1 41 (dk_at dksX4_count_4 21 rfl rfl)
theorem dX4_count_155 : decode cX4_count 155 = .ok (.ireturn, 1) := dk_172 (dk_at dksX4_count_5 0 rfl rfl)
theorem dX4_count_156 : decode cX4_count 156 = .ok (.aload_n 0, 1) := dk_42 (dk_at dksX4_count_5 1 rfl rfl)
theorem dX4_count_157 : decode cX4_count 157 = .ok (.getfield 120, 3) := dk_180 0 120 (dk_at dksX4_count_5 2 rfl rfl)
theorem dX4_count_160 : decode cX4_count 160 = .ok (.ireturn, 1) := dk_172 (dk_at dksX4_count_5 5 rfl rfl)
theorem dX4_count_161 : decode cX4_count 161 = .ok (.aload_n 0, 1) := dk_42 (dk_at dksX4_count_5 6 rfl rfl)
theorem dX4_count_162 : decode cX4_count 162 = .ok (.getfield 41, 3) := dk_180 0 41 (dk_at dksX4_count_5 7 rfl rfl)
theorem dX4_count_165 : decode cX4_count 165 = .ok (.iload_n 1, 1) := dk_27 (dk_at dksX4_count_5 10 rfl rfl)
theorem dX4_count_166 : decode cX4_count 166 = .ok (.bipush 12, 2) := dk_16 12 (dk_at dksX4_count_5 11 rfl rfl)
theorem dX4_count_168 : decode cX4_count 168 = .ok (.isub, 1) := dk_100 (dk_at dksX4_count_5 13 rfl rfl)
theorem dX4_count_169 : decode cX4_count 169 = .ok (.iaload, 1) := dk_46 (dk_at dksX4_count_5 14 rfl rfl)
theorem dX4_count_170 : decode cX4_count 170 = .ok (.ireturn, 1) := dk_172 (dk_at dksX4_count_5 15 rfl rfl)
abbrev cX4_ahead1 : ByteArray := prog_12_method_48_code
def yX4_ahead1 : MethodName := ⟨RX4, "ahead1", "(I)I"⟩
def dkwX4_ahead1_0 : List UInt8 := [27, 154, 0, 12, 42, 180, 0, 7, 4, 100, 167, 0, 6, 27, 4, 100, 172]
abbrev dktX4_ahead1_0 : List UInt8 := dkwX4_ahead1_0 ++ []
theorem dksX4_ahead1_0 : cX4_ahead1.data.toList.drop 0 = dktX4_ahead1_0 := by decide +kernel
theorem dX4_ahead1_0 : decode cX4_ahead1 0 = .ok (.iload_n 1, 1) := dk_27 (dk_at dksX4_ahead1_0 0 rfl rfl)
theorem dX4_ahead1_1 : decode cX4_ahead1 1 = .ok (.ifCond .ne 12, 3) := dk_154 0 12 (dk_at dksX4_ahead1_0 1 rfl rfl)
theorem dX4_ahead1_4 : decode cX4_ahead1 4 = .ok (.aload_n 0, 1) := dk_42 (dk_at dksX4_ahead1_0 4 rfl rfl)
theorem dX4_ahead1_5 : decode cX4_ahead1 5 = .ok (.getfield 7, 3) := dk_180 0 7 (dk_at dksX4_ahead1_0 5 rfl rfl)
theorem dX4_ahead1_8 : decode cX4_ahead1 8 = .ok (.iconst 1, 1) := dk_4 (dk_at dksX4_ahead1_0 8 rfl rfl)
theorem dX4_ahead1_9 : decode cX4_ahead1 9 = .ok (.isub, 1) := dk_100 (dk_at dksX4_ahead1_0 9 rfl rfl)
theorem dX4_ahead1_10 : decode cX4_ahead1 10 = .ok (.goto 6, 3) := dk_167 0 6 (dk_at dksX4_ahead1_0 10 rfl rfl)
theorem dX4_ahead1_13 : decode cX4_ahead1 13 = .ok (.iload_n 1, 1) := dk_27 (dk_at dksX4_ahead1_0 13 rfl rfl)
theorem dX4_ahead1_14 : decode cX4_ahead1 14 = .ok (.iconst 1, 1) := dk_4 (dk_at dksX4_ahead1_0 14 rfl rfl)
theorem dX4_ahead1_15 : decode cX4_ahead1 15 = .ok (.isub, 1) := dk_100 (dk_at dksX4_ahead1_0 15 rfl rfl)
theorem dX4_ahead1_16 : decode cX4_ahead1 16 = .ok (.ireturn, 1) := dk_172 (dk_at dksX4_ahead1_0 16 rfl rfl)
abbrev cX4_behind1 : ByteArray := prog_12_method_49_code
def yX4_behind1 : MethodName := ⟨RX4, "behind1", "(I)I"⟩
def dkwX4_behind1_0 : List UInt8 := [27, 42, 180, 0, 7, 4, 100, 160, 0, 7, 3, 167, 0, 6, 27, 4, 96, 172]
abbrev dktX4_behind1_0 : List UInt8 := dkwX4_behind1_0 ++ []
theorem dksX4_behind1_0 : cX4_behind1.data.toList.drop 0 = dktX4_behind1_0 := by decide +kernel
theorem dX4_behind1_0 : decode cX4_behind1 0 = .ok (.iload_n 1, 1) := dk_27 (dk_at dksX4_behind1_0 0 rfl rfl)
theorem dX4_behind1_1 : decode cX4_behind1 1 = .ok (.aload_n 0, 1) := dk_42 (dk_at dksX4_behind1_0 1 rfl rfl)
theorem dX4_behind1_2 : decode cX4_behind1 2 = .ok (.getfield 7, 3) := dk_180 0 7 (dk_at dksX4_behind1_0 2 rfl rfl)
theorem dX4_behind1_5 : decode cX4_behind1 5 = .ok (.iconst 1, 1) := dk_4 (dk_at dksX4_behind1_0 5 rfl rfl)
theorem dX4_behind1_6 : decode cX4_behind1 6 = .ok (.isub, 1) := dk_100 (dk_at dksX4_behind1_0 6 rfl rfl)
theorem dX4_behind1_7 : decode cX4_behind1 7 = .ok (.if_icmp .ne 7, 3) := dk_160 0 7 (dk_at dksX4_behind1_0 7 rfl rfl)
theorem dX4_behind1_10 : decode cX4_behind1 10 = .ok (.iconst 0, 1) := dk_3 (dk_at dksX4_behind1_0 10 rfl rfl)
theorem dX4_behind1_11 : decode cX4_behind1 11 = .ok (.goto 6, 3) := dk_167 0 6 (dk_at dksX4_behind1_0 11 rfl rfl)
theorem dX4_behind1_14 : decode cX4_behind1 14 = .ok (.iload_n 1, 1) := dk_27 (dk_at dksX4_behind1_0 14 rfl rfl)
theorem dX4_behind1_15 : decode cX4_behind1 15 = .ok (.iconst 1, 1) := dk_4 (dk_at dksX4_behind1_0 15 rfl rfl)
theorem dX4_behind1_16 : decode cX4_behind1 16 = .ok (.iadd, 1) := dk_96 (dk_at dksX4_behind1_0 16 rfl rfl)
theorem dX4_behind1_17 : decode cX4_behind1 17 = .ok (.ireturn, 1) := dk_172 (dk_at dksX4_behind1_0 17 rfl rfl)
abbrev cX4_besideOf : ByteArray := prog_12_method_52_code
def yX4_besideOf : MethodName := ⟨RX4, "besideOf", "(II)I"⟩
def dkwX4_besideOf_1 : List UInt8 := [182, 1, 55, 96, 46, 96, 172]
abbrev dktX4_besideOf_1 : List UInt8 := dkwX4_besideOf_1 ++ []
def dkwX4_besideOf_0 : List UInt8 := [42, 180, 0, 66, 27, 4, 96, 42, 28, 182, 1, 52, 96, 46, 42, 180, 0, 66, 27, 4, 96, 42, 28]
abbrev dktX4_besideOf_0 : List UInt8 := dkwX4_besideOf_0 ++ dktX4_besideOf_1
theorem dksX4_besideOf_0 : cX4_besideOf.data.toList.drop 0 = dktX4_besideOf_0 := by decide +kernel
theorem dksX4_besideOf_1 : cX4_besideOf.data.toList.drop 23 = dktX4_besideOf_1 := dk_seg dksX4_besideOf_0 23 rfl rfl
theorem dX4_besideOf_0 : decode cX4_besideOf 0 = .ok (.aload_n 0, 1) := dk_42 (dk_at dksX4_besideOf_0 0 rfl rfl)
theorem dX4_besideOf_1 : decode cX4_besideOf 1 = .ok (.getfield 66, 3) := dk_180 0 66 (dk_at dksX4_besideOf_0 1 rfl rfl)
theorem dX4_besideOf_4 : decode cX4_besideOf 4 = .ok (.iload_n 1, 1) := dk_27 (dk_at dksX4_besideOf_0 4 rfl rfl)
theorem dX4_besideOf_5 : decode cX4_besideOf 5 = .ok (.iconst 1, 1) := dk_4 (dk_at dksX4_besideOf_0 5 rfl rfl)
theorem dX4_besideOf_6 : decode cX4_besideOf 6 = .ok (.iadd, 1) := dk_96 (dk_at dksX4_besideOf_0 6 rfl rfl)
theorem dX4_besideOf_7 : decode cX4_besideOf 7 = .ok (.aload_n 0, 1) := dk_42 (dk_at dksX4_besideOf_0 7 rfl rfl)
theorem dX4_besideOf_8 : decode cX4_besideOf 8 = .ok (.iload_n 2, 1) := dk_28 (dk_at dksX4_besideOf_0 8 rfl rfl)
theorem dX4_besideOf_9 : decode cX4_besideOf 9 = .ok (.invokevirtual 308, 3) := dk_182 1 52 (dk_at dksX4_besideOf_0 9 rfl rfl)
theorem dX4_besideOf_12 : decode cX4_besideOf 12 = .ok (.iadd, 1) := dk_96 (dk_at dksX4_besideOf_0 12 rfl rfl)
theorem dX4_besideOf_13 : decode cX4_besideOf 13 = .ok (.iaload, 1) := dk_46 (dk_at dksX4_besideOf_0 13 rfl rfl)
theorem dX4_besideOf_14 : decode cX4_besideOf 14 = .ok (.aload_n 0, 1) := dk_42 (dk_at dksX4_besideOf_0 14 rfl rfl)
theorem dX4_besideOf_15 : decode cX4_besideOf 15 = .ok (.getfield 66, 3) := dk_180 0 66 (dk_at dksX4_besideOf_0 15 rfl rfl)
theorem dX4_besideOf_18 : decode cX4_besideOf 18 = .ok (.iload_n 1, 1) := dk_27 (dk_at dksX4_besideOf_0 18 rfl rfl)
theorem dX4_besideOf_19 : decode cX4_besideOf 19 = .ok (.iconst 1, 1) := dk_4 (dk_at dksX4_besideOf_0 19 rfl rfl)
theorem dX4_besideOf_20 : decode cX4_besideOf 20 = .ok (.iadd, 1) := dk_96 (dk_at dksX4_besideOf_0 20 rfl rfl)
theorem dX4_besideOf_21 : decode cX4_besideOf 21 = .ok (.aload_n 0, 1) := dk_42 (dk_at dksX4_besideOf_0 21 rfl rfl)
theorem dX4_besideOf_22 : decode cX4_besideOf 22 = .ok (.iload_n 2, 1) := dk_28 (dk_at dksX4_besideOf_0 22 rfl rfl)
theorem dX4_besideOf_23 : decode cX4_besideOf 23 = .ok (.invokevirtual 311, 3) := dk_182 1 55 (dk_at dksX4_besideOf_1 0 rfl rfl)
theorem dX4_besideOf_26 : decode cX4_besideOf 26 = .ok (.iadd, 1) := dk_96 (dk_at dksX4_besideOf_1 3 rfl rfl)
theorem dX4_besideOf_27 : decode cX4_besideOf 27 = .ok (.iaload, 1) := dk_46 (dk_at dksX4_besideOf_1 4 rfl rfl)
theorem dX4_besideOf_28 : decode cX4_besideOf 28 = .ok (.iadd, 1) := dk_96 (dk_at dksX4_besideOf_1 5 rfl rfl)
theorem dX4_besideOf_29 : decode cX4_besideOf 29 = .ok (.ireturn, 1) := dk_172 (dk_at dksX4_besideOf_1 6 rfl rfl)
abbrev cX4_bits : ByteArray := prog_12_method_8_code
def yX4_bits : MethodName := ⟨RX4, "bits", "(I)I"⟩
def dkwX4_bits_1 : List UInt8 := [27, 172]
abbrev dktX4_bits_1 : List UInt8 := dkwX4_bits_1 ++ []
def dkwX4_bits_0 : List UInt8 := [3, 60, 3, 61, 28, 16, 12, 162, 0, 17, 27, 26, 28, 122, 4, 126, 96, 60, 132, 2, 1, 167, 255, 239]
abbrev dktX4_bits_0 : List UInt8 := dkwX4_bits_0 ++ dktX4_bits_1
theorem dksX4_bits_0 : cX4_bits.data.toList.drop 0 = dktX4_bits_0 := by decide +kernel
theorem dksX4_bits_1 : cX4_bits.data.toList.drop 24 = dktX4_bits_1 := dk_seg dksX4_bits_0 24 rfl rfl
theorem dX4_bits_0 : decode cX4_bits 0 = .ok (.iconst 0, 1) := dk_3 (dk_at dksX4_bits_0 0 rfl rfl)
theorem dX4_bits_1 : decode cX4_bits 1 = .ok (.istore_n 1, 1) := dk_60 (dk_at dksX4_bits_0 1 rfl rfl)
theorem dX4_bits_2 : decode cX4_bits 2 = .ok (.iconst 0, 1) := dk_3 (dk_at dksX4_bits_0 2 rfl rfl)
theorem dX4_bits_3 : decode cX4_bits 3 = .ok (.istore_n 2, 1) := dk_61 (dk_at dksX4_bits_0 3 rfl rfl)
theorem dX4_bits_4 : decode cX4_bits 4 = .ok (.iload_n 2, 1) := dk_28 (dk_at dksX4_bits_0 4 rfl rfl)
theorem dX4_bits_5 : decode cX4_bits 5 = .ok (.bipush 12, 2) := dk_16 12 (dk_at dksX4_bits_0 5 rfl rfl)
theorem dX4_bits_7 : decode cX4_bits 7 = .ok (.if_icmp .ge 17, 3) := dk_162 0 17 (dk_at dksX4_bits_0 7 rfl rfl)
theorem dX4_bits_10 : decode cX4_bits 10 = .ok (.iload_n 1, 1) := dk_27 (dk_at dksX4_bits_0 10 rfl rfl)
theorem dX4_bits_11 : decode cX4_bits 11 = .ok (.iload_n 0, 1) := dk_26 (dk_at dksX4_bits_0 11 rfl rfl)
theorem dX4_bits_12 : decode cX4_bits 12 = .ok (.iload_n 2, 1) := dk_28 (dk_at dksX4_bits_0 12 rfl rfl)
theorem dX4_bits_13 : decode cX4_bits 13 = .ok (.ishr, 1) := dk_122 (dk_at dksX4_bits_0 13 rfl rfl)
theorem dX4_bits_14 : decode cX4_bits 14 = .ok (.iconst 1, 1) := dk_4 (dk_at dksX4_bits_0 14 rfl rfl)
theorem dX4_bits_15 : decode cX4_bits 15 = .ok (.iand, 1) := dk_126 (dk_at dksX4_bits_0 15 rfl rfl)
theorem dX4_bits_16 : decode cX4_bits 16 = .ok (.iadd, 1) := dk_96 (dk_at dksX4_bits_0 16 rfl rfl)
theorem dX4_bits_17 : decode cX4_bits 17 = .ok (.istore_n 1, 1) := dk_60 (dk_at dksX4_bits_0 17 rfl rfl)
theorem dX4_bits_18 : decode cX4_bits 18 = .ok (.iinc 2 1, 3) := dk_132 2 1 (dk_at dksX4_bits_0 18 rfl rfl)
theorem dX4_bits_21 : decode cX4_bits 21 = .ok (.goto (-17), 3) := dk_167 255 239 (dk_at dksX4_bits_0 21 rfl rfl)
theorem dX4_bits_24 : decode cX4_bits 24 = .ok (.iload_n 1, 1) := dk_27 (dk_at dksX4_bits_1 0 rfl rfl)
theorem dX4_bits_25 : decode cX4_bits 25 = .ok (.ireturn, 1) := dk_172 (dk_at dksX4_bits_1 1 rfl rfl)
abbrev cX4_works : ByteArray := prog_12_method_46_code
def yX4_works : MethodName := ⟨RX4, "works", "(III)I"⟩
def dkwX4_works_5 : List UInt8 := [167, 0, 6, 27, 28, 108, 172]
abbrev dktX4_works_5 : List UInt8 := dkwX4_works_5 ++ []
def dkwX4_works_4 : List UInt8 := [167, 0, 4, 3, 172, 27, 28, 96, 172, 27, 28, 100, 172, 27, 28, 104, 172, 28, 154, 0, 7, 3]
abbrev dktX4_works_4 : List UInt8 := dkwX4_works_4 ++ dktX4_works_5
def dkwX4_works_3 : List UInt8 := [167, 0, 4, 3, 172, 27, 28, 162, 0, 7, 4, 167, 0, 4, 3, 172, 27, 28, 160, 0, 7, 4]
abbrev dktX4_works_3 : List UInt8 := dkwX4_works_3 ++ dktX4_works_4
def dkwX4_works_2 : List UInt8 := [27, 153, 0, 11, 28, 153, 0, 7, 4, 167, 0, 4, 3, 172, 27, 154, 0, 7, 28, 153, 0, 7, 4]
abbrev dktX4_works_2 : List UInt8 := dkwX4_works_2 ++ dktX4_works_3
def dkwX4_works_1 : List UInt8 := [170, 0, 0, 0, 0, 0, 105, 0, 0, 0, 4, 0, 0, 0, 10, 0, 0, 0, 43, 0, 0, 0, 57, 0, 0, 0, 71, 0, 0, 0, 82, 0, 0, 0, 93, 0, 0, 0, 97, 0, 0, 0, 101]
abbrev dktX4_works_1 : List UInt8 := dkwX4_works_1 ++ dktX4_works_2
def dkwX4_works_0 : List UInt8 := [26]
abbrev dktX4_works_0 : List UInt8 := dkwX4_works_0 ++ dktX4_works_1
theorem dksX4_works_0 : cX4_works.data.toList.drop 0 = dktX4_works_0 := by decide +kernel
theorem dksX4_works_1 : cX4_works.data.toList.drop 1 = dktX4_works_1 := dk_seg dksX4_works_0 1 rfl rfl
theorem dksX4_works_2 : cX4_works.data.toList.drop 44 = dktX4_works_2 := dk_seg dksX4_works_1 43 rfl rfl
theorem dksX4_works_3 : cX4_works.data.toList.drop 67 = dktX4_works_3 := dk_seg dksX4_works_2 23 rfl rfl
theorem dksX4_works_4 : cX4_works.data.toList.drop 89 = dktX4_works_4 := dk_seg dksX4_works_3 22 rfl rfl
theorem dksX4_works_5 : cX4_works.data.toList.drop 111 = dktX4_works_5 := dk_seg dksX4_works_4 22 rfl rfl
theorem dX4_works_0 : decode cX4_works 0 = .ok (.iload_n 0, 1) := dk_26 (dk_at dksX4_works_0 0 rfl rfl)
theorem dX4_works_1 : decode cX4_works 1 = .ok (.tableswitch 105 4 10 #[43, 57, 71, 82, 93, 97, 101], 43) := by decide +kernel
theorem dX4_works_44 : decode cX4_works 44 = .ok (.iload_n 1, 1) := dk_27 (dk_at dksX4_works_2 0 rfl rfl)
theorem dX4_works_45 : decode cX4_works 45 = .ok (.ifCond .eq 11, 3) := dk_153 0 11 (dk_at dksX4_works_2 1 rfl rfl)
theorem dX4_works_48 : decode cX4_works 48 = .ok (.iload_n 2, 1) := dk_28 (dk_at dksX4_works_2 4 rfl rfl)
theorem dX4_works_49 : decode cX4_works 49 = .ok (.ifCond .eq 7, 3) := dk_153 0 7 (dk_at dksX4_works_2 5 rfl rfl)
theorem dX4_works_52 : decode cX4_works 52 = .ok (.iconst 1, 1) := dk_4 (dk_at dksX4_works_2 8 rfl rfl)
theorem dX4_works_53 : decode cX4_works 53 = .ok (.goto 4, 3) := dk_167 0 4 (dk_at dksX4_works_2 9 rfl rfl)
theorem dX4_works_56 : decode cX4_works 56 = .ok (.iconst 0, 1) := dk_3 (dk_at dksX4_works_2 12 rfl rfl)
theorem dX4_works_57 : decode cX4_works 57 = .ok (.ireturn, 1) := dk_172 (dk_at dksX4_works_2 13 rfl rfl)
theorem dX4_works_58 : decode cX4_works 58 = .ok (.iload_n 1, 1) := dk_27 (dk_at dksX4_works_2 14 rfl rfl)
theorem dX4_works_59 : decode cX4_works 59 = .ok (.ifCond .ne 7, 3) := dk_154 0 7 (dk_at dksX4_works_2 15 rfl rfl)
theorem dX4_works_62 : decode cX4_works 62 = .ok (.iload_n 2, 1) := dk_28 (dk_at dksX4_works_2 18 rfl rfl)
theorem dX4_works_63 : decode cX4_works 63 = .ok (.ifCond .eq 7, 3) := dk_153 0 7 (dk_at dksX4_works_2 19 rfl rfl)
theorem dX4_works_66 : decode cX4_works 66 = .ok (.iconst 1, 1) := dk_4 (dk_at dksX4_works_2 22 rfl rfl)
theorem dX4_works_67 : decode cX4_works 67 = .ok (.goto 4, 3) := dk_167 0 4 (dk_at dksX4_works_3 0 rfl rfl)
theorem dX4_works_70 : decode cX4_works 70 = .ok (.iconst 0, 1) := dk_3 (dk_at dksX4_works_3 3 rfl rfl)
theorem dX4_works_71 : decode cX4_works 71 = .ok (.ireturn, 1) := dk_172 (dk_at dksX4_works_3 4 rfl rfl)
theorem dX4_works_72 : decode cX4_works 72 = .ok (.iload_n 1, 1) := dk_27 (dk_at dksX4_works_3 5 rfl rfl)
theorem dX4_works_73 : decode cX4_works 73 = .ok (.iload_n 2, 1) := dk_28 (dk_at dksX4_works_3 6 rfl rfl)
theorem dX4_works_74 : decode cX4_works 74 = .ok (.if_icmp .ge 7, 3) := dk_162 0 7 (dk_at dksX4_works_3 7 rfl rfl)
theorem dX4_works_77 : decode cX4_works 77 = .ok (.iconst 1, 1) := dk_4 (dk_at dksX4_works_3 10 rfl rfl)
theorem dX4_works_78 : decode cX4_works 78 = .ok (.goto 4, 3) := dk_167 0 4 (dk_at dksX4_works_3 11 rfl rfl)
theorem dX4_works_81 : decode cX4_works 81 = .ok (.iconst 0, 1) := dk_3 (dk_at dksX4_works_3 14 rfl rfl)
theorem dX4_works_82 : decode cX4_works 82 = .ok (.ireturn, 1) := dk_172 (dk_at dksX4_works_3 15 rfl rfl)
theorem dX4_works_83 : decode cX4_works 83 = .ok (.iload_n 1, 1) := dk_27 (dk_at dksX4_works_3 16 rfl rfl)
theorem dX4_works_84 : decode cX4_works 84 = .ok (.iload_n 2, 1) := dk_28 (dk_at dksX4_works_3 17 rfl rfl)
theorem dX4_works_85 : decode cX4_works 85 = .ok (.if_icmp .ne 7, 3) := dk_160 0 7 (dk_at dksX4_works_3 18 rfl rfl)
theorem dX4_works_88 : decode cX4_works 88 = .ok (.iconst 1, 1) := dk_4 (dk_at dksX4_works_3 21 rfl rfl)
theorem dX4_works_89 : decode cX4_works 89 = .ok (.goto 4, 3) := dk_167 0 4 (dk_at dksX4_works_4 0 rfl rfl)
theorem dX4_works_92 : decode cX4_works 92 = .ok (.iconst 0, 1) := dk_3 (dk_at dksX4_works_4 3 rfl rfl)
theorem dX4_works_93 : decode cX4_works 93 = .ok (.ireturn, 1) := dk_172 (dk_at dksX4_works_4 4 rfl rfl)
theorem dX4_works_94 : decode cX4_works 94 = .ok (.iload_n 1, 1) := dk_27 (dk_at dksX4_works_4 5 rfl rfl)
theorem dX4_works_95 : decode cX4_works 95 = .ok (.iload_n 2, 1) := dk_28 (dk_at dksX4_works_4 6 rfl rfl)
theorem dX4_works_96 : decode cX4_works 96 = .ok (.iadd, 1) := dk_96 (dk_at dksX4_works_4 7 rfl rfl)
theorem dX4_works_97 : decode cX4_works 97 = .ok (.ireturn, 1) := dk_172 (dk_at dksX4_works_4 8 rfl rfl)
theorem dX4_works_98 : decode cX4_works 98 = .ok (.iload_n 1, 1) := dk_27 (dk_at dksX4_works_4 9 rfl rfl)
theorem dX4_works_99 : decode cX4_works 99 = .ok (.iload_n 2, 1) := dk_28 (dk_at dksX4_works_4 10 rfl rfl)
theorem dX4_works_100 : decode cX4_works 100 = .ok (.isub, 1) := dk_100 (dk_at dksX4_works_4 11 rfl rfl)
theorem dX4_works_101 : decode cX4_works 101 = .ok (.ireturn, 1) := dk_172 (dk_at dksX4_works_4 12 rfl rfl)
theorem dX4_works_102 : decode cX4_works 102 = .ok (.iload_n 1, 1) := dk_27 (dk_at dksX4_works_4 13 rfl rfl)
theorem dX4_works_103 : decode cX4_works 103 = .ok (.iload_n 2, 1) := dk_28 (dk_at dksX4_works_4 14 rfl rfl)
theorem dX4_works_104 : decode cX4_works 104 = .ok (.imul, 1) := dk_104 (dk_at dksX4_works_4 15 rfl rfl)
theorem dX4_works_105 : decode cX4_works 105 = .ok (.ireturn, 1) := dk_172 (dk_at dksX4_works_4 16 rfl rfl)
theorem dX4_works_106 : decode cX4_works 106 = .ok (.iload_n 2, 1) := dk_28 (dk_at dksX4_works_4 17 rfl rfl)
theorem dX4_works_107 : decode cX4_works 107 = .ok (.ifCond .ne 7, 3) := dk_154 0 7 (dk_at dksX4_works_4 18 rfl rfl)
theorem dX4_works_110 : decode cX4_works 110 = .ok (.iconst 0, 1) := dk_3 (dk_at dksX4_works_4 21 rfl rfl)
theorem dX4_works_111 : decode cX4_works 111 = .ok (.goto 6, 3) := dk_167 0 6 (dk_at dksX4_works_5 0 rfl rfl)
theorem dX4_works_114 : decode cX4_works 114 = .ok (.iload_n 1, 1) := dk_27 (dk_at dksX4_works_5 3 rfl rfl)
theorem dX4_works_115 : decode cX4_works 115 = .ok (.iload_n 2, 1) := dk_28 (dk_at dksX4_works_5 4 rfl rfl)
theorem dX4_works_116 : decode cX4_works 116 = .ok (.idiv, 1) := dk_108 (dk_at dksX4_works_5 5 rfl rfl)
theorem dX4_works_117 : decode cX4_works 117 = .ok (.ireturn, 1) := dk_172 (dk_at dksX4_works_5 6 rfl rfl)
abbrev cX4_reckons : ByteArray := prog_12_method_47_code
def yX4_reckons : MethodName := ⟨RX4, "reckons", "(I)I"⟩
def dkwX4_reckons_6 : List UInt8 := [42, 180, 0, 75, 3, 46, 172]
abbrev dktX4_reckons_6 : List UInt8 := dkwX4_reckons_6 ++ []
def dkwX4_reckons_5 : List UInt8 := [100, 21, 4, 42, 180, 0, 75, 28, 4, 100, 46, 42, 180, 0, 75, 28, 46, 184, 1, 48, 79, 167, 255, 120]
abbrev dktX4_reckons_5 : List UInt8 := dkwX4_reckons_5 ++ dktX4_reckons_6
def dkwX4_reckons_4 : List UInt8 := [4, 100, 46, 154, 0, 7, 4, 167, 0, 4, 3, 79, 167, 0, 33, 132, 2, 255, 42, 180, 0, 75, 28, 4]
abbrev dktX4_reckons_4 : List UInt8 := dkwX4_reckons_4 ++ dktX4_reckons_5
def dkwX4_reckons_3 : List UInt8 := [132, 2, 1, 167, 0, 66, 21, 4, 6, 160, 0, 30, 42, 180, 0, 75, 28, 4, 100, 42, 180, 0, 75, 28]
abbrev dktX4_reckons_3 : List UInt8 := dkwX4_reckons_3 ++ dktX4_reckons_4
def dkwX4_reckons_2 : List UInt8 := [180, 0, 32, 29, 46, 167, 0, 14, 42, 180, 0, 72, 42, 180, 0, 32, 29, 46, 46, 79, 132, 3, 1]
abbrev dktX4_reckons_2 : List UInt8 := dkwX4_reckons_2 ++ dktX4_reckons_3
def dkwX4_reckons_1 : List UInt8 := [21, 4, 4, 159, 0, 9, 21, 4, 5, 160, 0, 44, 42, 180, 0, 75, 28, 21, 4, 4, 160, 0, 12, 42]
abbrev dktX4_reckons_1 : List UInt8 := dkwX4_reckons_1 ++ dktX4_reckons_2
def dkwX4_reckons_0 : List UInt8 := [3, 61, 27, 62, 42, 180, 0, 32, 29, 46, 153, 0, 133, 42, 180, 0, 32, 29, 46, 54, 4, 132, 3, 1]
abbrev dktX4_reckons_0 : List UInt8 := dkwX4_reckons_0 ++ dktX4_reckons_1
theorem dksX4_reckons_0 : cX4_reckons.data.toList.drop 0 = dktX4_reckons_0 := by decide +kernel
theorem dksX4_reckons_1 : cX4_reckons.data.toList.drop 24 = dktX4_reckons_1 := dk_seg dksX4_reckons_0 24 rfl rfl
theorem dksX4_reckons_2 : cX4_reckons.data.toList.drop 48 = dktX4_reckons_2 := dk_seg dksX4_reckons_1 24 rfl rfl
theorem dksX4_reckons_3 : cX4_reckons.data.toList.drop 71 = dktX4_reckons_3 := dk_seg dksX4_reckons_2 23 rfl rfl
theorem dksX4_reckons_4 : cX4_reckons.data.toList.drop 95 = dktX4_reckons_4 := dk_seg dksX4_reckons_3 24 rfl rfl
theorem dksX4_reckons_5 : cX4_reckons.data.toList.drop 119 = dktX4_reckons_5 := dk_seg dksX4_reckons_4 24 rfl rfl
theorem dksX4_reckons_6 : cX4_reckons.data.toList.drop 143 = dktX4_reckons_6 := dk_seg dksX4_reckons_5 24 rfl rfl
theorem dX4_reckons_0 : decode cX4_reckons 0 = .ok (.iconst 0, 1) := dk_3 (dk_at dksX4_reckons_0 0 rfl rfl)
theorem dX4_reckons_1 : decode cX4_reckons 1 = .ok (.istore_n 2, 1) := dk_61 (dk_at dksX4_reckons_0 1 rfl rfl)
theorem dX4_reckons_2 : decode cX4_reckons 2 = .ok (.iload_n 1, 1) := dk_27 (dk_at dksX4_reckons_0 2 rfl rfl)
theorem dX4_reckons_3 : decode cX4_reckons 3 = .ok (.istore_n 3, 1) := dk_62 (dk_at dksX4_reckons_0 3 rfl rfl)
theorem dX4_reckons_4 : decode cX4_reckons 4 = .ok (.aload_n 0, 1) := dk_42 (dk_at dksX4_reckons_0 4 rfl rfl)
theorem dX4_reckons_5 : decode cX4_reckons 5 = .ok (.getfield 32, 3) := dk_180 0 32 (dk_at dksX4_reckons_0 5 rfl rfl)
theorem dX4_reckons_8 : decode cX4_reckons 8 = .ok (.iload_n 3, 1) := dk_29 (dk_at dksX4_reckons_0 8 rfl rfl)
theorem dX4_reckons_9 : decode cX4_reckons 9 = .ok (.iaload, 1) := dk_46 (dk_at dksX4_reckons_0 9 rfl rfl)
theorem dX4_reckons_10 : decode cX4_reckons 10 = .ok (.ifCond .eq 133, 3) := dk_153 0 133 (dk_at dksX4_reckons_0 10 rfl rfl)
theorem dX4_reckons_13 : decode cX4_reckons 13 = .ok (.aload_n 0, 1) := dk_42 (dk_at dksX4_reckons_0 13 rfl rfl)
theorem dX4_reckons_14 : decode cX4_reckons 14 = .ok (.getfield 32, 3) := dk_180 0 32 (dk_at dksX4_reckons_0 14 rfl rfl)
theorem dX4_reckons_17 : decode cX4_reckons 17 = .ok (.iload_n 3, 1) := dk_29 (dk_at dksX4_reckons_0 17 rfl rfl)
theorem dX4_reckons_18 : decode cX4_reckons 18 = .ok (.iaload, 1) := dk_46 (dk_at dksX4_reckons_0 18 rfl rfl)
theorem dX4_reckons_19 : decode cX4_reckons 19 = .ok (.istore 4, 2) := dk_54 4 (dk_at dksX4_reckons_0 19 rfl rfl)
theorem dX4_reckons_21 : decode cX4_reckons 21 = .ok (.iinc 3 1, 3) := dk_132 3 1 (dk_at dksX4_reckons_0 21 rfl rfl)
theorem dX4_reckons_24 : decode cX4_reckons 24 = .ok (.iload 4, 2) := dk_21 4 (dk_at dksX4_reckons_1 0 rfl rfl)
theorem dX4_reckons_26 : decode cX4_reckons 26 = .ok (.iconst 1, 1) := dk_4 (dk_at dksX4_reckons_1 2 rfl rfl)
theorem dX4_reckons_27 : decode cX4_reckons 27 = .ok (.if_icmp .eq 9, 3) := dk_159 0 9 (dk_at dksX4_reckons_1 3 rfl rfl)
theorem dX4_reckons_30 : decode cX4_reckons 30 = .ok (.iload 4, 2) := dk_21 4 (dk_at dksX4_reckons_1 6 rfl rfl)
theorem dX4_reckons_32 : decode cX4_reckons 32 = .ok (.iconst 2, 1) := dk_5 (dk_at dksX4_reckons_1 8 rfl rfl)
theorem dX4_reckons_33 : decode cX4_reckons 33 = .ok (.if_icmp .ne 44, 3) := dk_160 0 44 (dk_at dksX4_reckons_1 9 rfl rfl)
theorem dX4_reckons_36 : decode cX4_reckons 36 = .ok (.aload_n 0, 1) := dk_42 (dk_at dksX4_reckons_1 12 rfl rfl)
theorem dX4_reckons_37 : decode cX4_reckons 37 = .ok (.getfield 75, 3) := dk_180 0 75 (dk_at dksX4_reckons_1 13 rfl rfl)
theorem dX4_reckons_40 : decode cX4_reckons 40 = .ok (.iload_n 2, 1) := dk_28 (dk_at dksX4_reckons_1 16 rfl rfl)
theorem dX4_reckons_41 : decode cX4_reckons 41 = .ok (.iload 4, 2) := dk_21 4 (dk_at dksX4_reckons_1 17 rfl rfl)
theorem dX4_reckons_43 : decode cX4_reckons 43 = .ok (.iconst 1, 1) := dk_4 (dk_at dksX4_reckons_1 19 rfl rfl)
theorem dX4_reckons_44 : decode cX4_reckons 44 = .ok (.if_icmp .ne 12, 3) := dk_160 0 12 (dk_at dksX4_reckons_1 20 rfl rfl)
theorem dX4_reckons_47 : decode cX4_reckons 47 = .ok (.aload_n 0, 1) := dk_42 (dk_at dksX4_reckons_1 23 rfl rfl)
theorem dX4_reckons_48 : decode cX4_reckons 48 = .ok (.getfield 32, 3) := dk_180 0 32 (dk_at dksX4_reckons_2 0 rfl rfl)
theorem dX4_reckons_51 : decode cX4_reckons 51 = .ok (.iload_n 3, 1) := dk_29 (dk_at dksX4_reckons_2 3 rfl rfl)
theorem dX4_reckons_52 : decode cX4_reckons 52 = .ok (.iaload, 1) := dk_46 (dk_at dksX4_reckons_2 4 rfl rfl)
theorem dX4_reckons_53 : decode cX4_reckons 53 = .ok (.goto 14, 3) := dk_167 0 14 (dk_at dksX4_reckons_2 5 rfl rfl)
theorem dX4_reckons_56 : decode cX4_reckons 56 = .ok (.aload_n 0, 1) := dk_42 (dk_at dksX4_reckons_2 8 rfl rfl)
theorem dX4_reckons_57 : decode cX4_reckons 57 = .ok (.getfield 72, 3) := dk_180 0 72 (dk_at dksX4_reckons_2 9 rfl rfl)
theorem dX4_reckons_60 : decode cX4_reckons 60 = .ok (.aload_n 0, 1) := dk_42 (dk_at dksX4_reckons_2 12 rfl rfl)
theorem dX4_reckons_61 : decode cX4_reckons 61 = .ok (.getfield 32, 3) := dk_180 0 32 (dk_at dksX4_reckons_2 13 rfl rfl)
theorem dX4_reckons_64 : decode cX4_reckons 64 = .ok (.iload_n 3, 1) := dk_29 (dk_at dksX4_reckons_2 16 rfl rfl)
theorem dX4_reckons_65 : decode cX4_reckons 65 = .ok (.iaload, 1) := dk_46 (dk_at dksX4_reckons_2 17 rfl rfl)
theorem dX4_reckons_66 : decode cX4_reckons 66 = .ok (.iaload, 1) := dk_46 (dk_at dksX4_reckons_2 18 rfl rfl)
theorem dX4_reckons_67 : decode cX4_reckons 67 = .ok (.iastore, 1) := dk_79 (dk_at dksX4_reckons_2 19 rfl rfl)
theorem dX4_reckons_68 : decode cX4_reckons 68 = .ok (.iinc 3 1, 3) := dk_132 3 1 (dk_at dksX4_reckons_2 20 rfl rfl)
theorem dX4_reckons_71 : decode cX4_reckons 71 = .ok (.iinc 2 1, 3) := dk_132 2 1 (dk_at dksX4_reckons_3 0 rfl rfl)
theorem dX4_reckons_74 : decode cX4_reckons 74 = .ok (.goto 66, 3) := dk_167 0 66 (dk_at dksX4_reckons_3 3 rfl rfl)
theorem dX4_reckons_77 : decode cX4_reckons 77 = .ok (.iload 4, 2) := dk_21 4 (dk_at dksX4_reckons_3 6 rfl rfl)
theorem dX4_reckons_79 : decode cX4_reckons 79 = .ok (.iconst 3, 1) := dk_6 (dk_at dksX4_reckons_3 8 rfl rfl)
theorem dX4_reckons_80 : decode cX4_reckons 80 = .ok (.if_icmp .ne 30, 3) := dk_160 0 30 (dk_at dksX4_reckons_3 9 rfl rfl)
theorem dX4_reckons_83 : decode cX4_reckons 83 = .ok (.aload_n 0, 1) := dk_42 (dk_at dksX4_reckons_3 12 rfl rfl)
theorem dX4_reckons_84 : decode cX4_reckons 84 = .ok (.getfield 75, 3) := dk_180 0 75 (dk_at dksX4_reckons_3 13 rfl rfl)
theorem dX4_reckons_87 : decode cX4_reckons 87 = .ok (.iload_n 2, 1) := dk_28 (dk_at dksX4_reckons_3 16 rfl rfl)
theorem dX4_reckons_88 : decode cX4_reckons 88 = .ok (.iconst 1, 1) := dk_4 (dk_at dksX4_reckons_3 17 rfl rfl)
theorem dX4_reckons_89 : decode cX4_reckons 89 = .ok (.isub, 1) := dk_100 (dk_at dksX4_reckons_3 18 rfl rfl)
theorem dX4_reckons_90 : decode cX4_reckons 90 = .ok (.aload_n 0, 1) := dk_42 (dk_at dksX4_reckons_3 19 rfl rfl)
theorem dX4_reckons_91 : decode cX4_reckons 91 = .ok (.getfield 75, 3) := dk_180 0 75 (dk_at dksX4_reckons_3 20 rfl rfl)
theorem dX4_reckons_94 : decode cX4_reckons 94 = .ok (.iload_n 2, 1) := dk_28 (dk_at dksX4_reckons_3 23 rfl rfl)
theorem dX4_reckons_95 : decode cX4_reckons 95 = .ok (.iconst 1, 1) := dk_4 (dk_at dksX4_reckons_4 0 rfl rfl)
theorem dX4_reckons_96 : decode cX4_reckons 96 = .ok (.isub, 1) := dk_100 (dk_at dksX4_reckons_4 1 rfl rfl)
theorem dX4_reckons_97 : decode cX4_reckons 97 = .ok (.iaload, 1) := dk_46 (dk_at dksX4_reckons_4 2 rfl rfl)
theorem dX4_reckons_98 : decode cX4_reckons 98 = .ok (.ifCond .ne 7, 3) := dk_154 0 7 (dk_at dksX4_reckons_4 3 rfl rfl)
theorem dX4_reckons_101 : decode cX4_reckons 101 = .ok (.iconst 1, 1) := dk_4 (dk_at dksX4_reckons_4 6 rfl rfl)
theorem dX4_reckons_102 : decode cX4_reckons 102 = .ok (.goto 4, 3) := dk_167 0 4 (dk_at dksX4_reckons_4 7 rfl rfl)
theorem dX4_reckons_105 : decode cX4_reckons 105 = .ok (.iconst 0, 1) := dk_3 (dk_at dksX4_reckons_4 10 rfl rfl)
theorem dX4_reckons_106 : decode cX4_reckons 106 = .ok (.iastore, 1) := dk_79 (dk_at dksX4_reckons_4 11 rfl rfl)
theorem dX4_reckons_107 : decode cX4_reckons 107 = .ok (.goto 33, 3) := dk_167 0 33 (dk_at dksX4_reckons_4 12 rfl rfl)
theorem dX4_reckons_110 : decode cX4_reckons 110 = .ok (.iinc 2 (-1), 3) := dk_132 2 255 (dk_at dksX4_reckons_4 15 rfl rfl)
theorem dX4_reckons_113 : decode cX4_reckons 113 = .ok (.aload_n 0, 1) := dk_42 (dk_at dksX4_reckons_4 18 rfl rfl)
theorem dX4_reckons_114 : decode cX4_reckons 114 = .ok (.getfield 75, 3) := dk_180 0 75 (dk_at dksX4_reckons_4 19 rfl rfl)
theorem dX4_reckons_117 : decode cX4_reckons 117 = .ok (.iload_n 2, 1) := dk_28 (dk_at dksX4_reckons_4 22 rfl rfl)
theorem dX4_reckons_118 : decode cX4_reckons 118 = .ok (.iconst 1, 1) := dk_4 (dk_at dksX4_reckons_4 23 rfl rfl)
theorem dX4_reckons_119 : decode cX4_reckons 119 = .ok (.isub, 1) := dk_100 (dk_at dksX4_reckons_5 0 rfl rfl)
theorem dX4_reckons_120 : decode cX4_reckons 120 = .ok (.iload 4, 2) := dk_21 4 (dk_at dksX4_reckons_5 1 rfl rfl)
theorem dX4_reckons_122 : decode cX4_reckons 122 = .ok (.aload_n 0, 1) := dk_42 (dk_at dksX4_reckons_5 3 rfl rfl)
theorem dX4_reckons_123 : decode cX4_reckons 123 = .ok (.getfield 75, 3) := dk_180 0 75 (dk_at dksX4_reckons_5 4 rfl rfl)
theorem dX4_reckons_126 : decode cX4_reckons 126 = .ok (.iload_n 2, 1) := dk_28 (dk_at dksX4_reckons_5 7 rfl rfl)
theorem dX4_reckons_127 : decode cX4_reckons 127 = .ok (.iconst 1, 1) := dk_4 (dk_at dksX4_reckons_5 8 rfl rfl)
theorem dX4_reckons_128 : decode cX4_reckons 128 = .ok (.isub, 1) := dk_100 (dk_at dksX4_reckons_5 9 rfl rfl)
theorem dX4_reckons_129 : decode cX4_reckons 129 = .ok (.iaload, 1) := dk_46 (dk_at dksX4_reckons_5 10 rfl rfl)
theorem dX4_reckons_130 : decode cX4_reckons 130 = .ok (.aload_n 0, 1) := dk_42 (dk_at dksX4_reckons_5 11 rfl rfl)
theorem dX4_reckons_131 : decode cX4_reckons 131 = .ok (.getfield 75, 3) := dk_180 0 75 (dk_at dksX4_reckons_5 12 rfl rfl)
theorem dX4_reckons_134 : decode cX4_reckons 134 = .ok (.iload_n 2, 1) := dk_28 (dk_at dksX4_reckons_5 15 rfl rfl)
theorem dX4_reckons_135 : decode cX4_reckons 135 = .ok (.iaload, 1) := dk_46 (dk_at dksX4_reckons_5 16 rfl rfl)
theorem dX4_reckons_136 : decode cX4_reckons 136 = .ok (.invokestatic 304, 3) := dk_184 1 48 (dk_at dksX4_reckons_5 17 rfl rfl)
theorem dX4_reckons_139 : decode cX4_reckons 139 = .ok (.iastore, 1) := dk_79 (dk_at dksX4_reckons_5 20 rfl rfl)
theorem dX4_reckons_140 : decode cX4_reckons 140 = .ok (.goto (-136), 3) := dk_167 255 120 (dk_at dksX4_reckons_5 21 rfl rfl)
theorem dX4_reckons_143 : decode cX4_reckons 143 = .ok (.aload_n 0, 1) := dk_42 (dk_at dksX4_reckons_6 0 rfl rfl)
theorem dX4_reckons_144 : decode cX4_reckons 144 = .ok (.getfield 75, 3) := dk_180 0 75 (dk_at dksX4_reckons_6 1 rfl rfl)
theorem dX4_reckons_147 : decode cX4_reckons 147 = .ok (.iconst 0, 1) := dk_3 (dk_at dksX4_reckons_6 4 rfl rfl)
theorem dX4_reckons_148 : decode cX4_reckons 148 = .ok (.iaload, 1) := dk_46 (dk_at dksX4_reckons_6 5 rfl rfl)
theorem dX4_reckons_149 : decode cX4_reckons 149 = .ok (.ireturn, 1) := dk_172 (dk_at dksX4_reckons_6 6 rfl rfl)
abbrev cX4_asks : ByteArray := prog_12_method_53_code
def yX4_asks : MethodName := ⟨RX4, "asks", "(III)I"⟩
def dkwX4_asks_4 : List UInt8 := [182, 1, 67, 172]
abbrev dktX4_asks_4 : List UInt8 := dkwX4_asks_4 ++ []
def dkwX4_asks_3 : List UInt8 := [182, 1, 61, 184, 1, 64, 79, 42, 180, 0, 72, 8, 42, 180, 0, 66, 28, 3, 96, 46, 79, 42, 27]
abbrev dktX4_asks_3 : List UInt8 := dkwX4_asks_3 ++ dktX4_asks_4
def dkwX4_asks_2 : List UInt8 := [29, 96, 46, 79, 42, 180, 0, 72, 6, 42, 28, 29, 182, 1, 58, 79, 42, 180, 0, 72, 7, 42, 28, 29]
abbrev dktX4_asks_2 : List UInt8 := dkwX4_asks_2 ++ dktX4_asks_3
def dkwX4_asks_1 : List UInt8 := [180, 0, 66, 28, 16, 13, 96, 29, 96, 46, 79, 42, 180, 0, 72, 5, 42, 180, 0, 66, 28, 16, 25, 96]
abbrev dktX4_asks_1 : List UInt8 := dkwX4_asks_1 ++ dktX4_asks_2
def dkwX4_asks_0 : List UInt8 := [42, 180, 0, 72, 3, 42, 180, 0, 66, 28, 4, 96, 29, 96, 46, 79, 42, 180, 0, 72, 4, 42]
abbrev dktX4_asks_0 : List UInt8 := dkwX4_asks_0 ++ dktX4_asks_1
theorem dksX4_asks_0 : cX4_asks.data.toList.drop 0 = dktX4_asks_0 := by decide +kernel
theorem dksX4_asks_1 : cX4_asks.data.toList.drop 22 = dktX4_asks_1 := dk_seg dksX4_asks_0 22 rfl rfl
theorem dksX4_asks_2 : cX4_asks.data.toList.drop 46 = dktX4_asks_2 := dk_seg dksX4_asks_1 24 rfl rfl
theorem dksX4_asks_3 : cX4_asks.data.toList.drop 70 = dktX4_asks_3 := dk_seg dksX4_asks_2 24 rfl rfl
theorem dksX4_asks_4 : cX4_asks.data.toList.drop 93 = dktX4_asks_4 := dk_seg dksX4_asks_3 23 rfl rfl
theorem dX4_asks_0 : decode cX4_asks 0 = .ok (.aload_n 0, 1) := dk_42 (dk_at dksX4_asks_0 0 rfl rfl)
theorem dX4_asks_1 : decode cX4_asks 1 = .ok (.getfield 72, 3) := dk_180 0 72 (dk_at dksX4_asks_0 1 rfl rfl)
theorem dX4_asks_4 : decode cX4_asks 4 = .ok (.iconst 0, 1) := dk_3 (dk_at dksX4_asks_0 4 rfl rfl)
theorem dX4_asks_5 : decode cX4_asks 5 = .ok (.aload_n 0, 1) := dk_42 (dk_at dksX4_asks_0 5 rfl rfl)
theorem dX4_asks_6 : decode cX4_asks 6 = .ok (.getfield 66, 3) := dk_180 0 66 (dk_at dksX4_asks_0 6 rfl rfl)
theorem dX4_asks_9 : decode cX4_asks 9 = .ok (.iload_n 2, 1) := dk_28 (dk_at dksX4_asks_0 9 rfl rfl)
theorem dX4_asks_10 : decode cX4_asks 10 = .ok (.iconst 1, 1) := dk_4 (dk_at dksX4_asks_0 10 rfl rfl)
theorem dX4_asks_11 : decode cX4_asks 11 = .ok (.iadd, 1) := dk_96 (dk_at dksX4_asks_0 11 rfl rfl)
theorem dX4_asks_12 : decode cX4_asks 12 = .ok (.iload_n 3, 1) := dk_29 (dk_at dksX4_asks_0 12 rfl rfl)
theorem dX4_asks_13 : decode cX4_asks 13 = .ok (.iadd, 1) := dk_96 (dk_at dksX4_asks_0 13 rfl rfl)
theorem dX4_asks_14 : decode cX4_asks 14 = .ok (.iaload, 1) := dk_46 (dk_at dksX4_asks_0 14 rfl rfl)
theorem dX4_asks_15 : decode cX4_asks 15 = .ok (.iastore, 1) := dk_79 (dk_at dksX4_asks_0 15 rfl rfl)
theorem dX4_asks_16 : decode cX4_asks 16 = .ok (.aload_n 0, 1) := dk_42 (dk_at dksX4_asks_0 16 rfl rfl)
theorem dX4_asks_17 : decode cX4_asks 17 = .ok (.getfield 72, 3) := dk_180 0 72 (dk_at dksX4_asks_0 17 rfl rfl)
theorem dX4_asks_20 : decode cX4_asks 20 = .ok (.iconst 1, 1) := dk_4 (dk_at dksX4_asks_0 20 rfl rfl)
theorem dX4_asks_21 : decode cX4_asks 21 = .ok (.aload_n 0, 1) := dk_42 (dk_at dksX4_asks_0 21 rfl rfl)
theorem dX4_asks_22 : decode cX4_asks 22 = .ok (.getfield 66, 3) := dk_180 0 66 (dk_at dksX4_asks_1 0 rfl rfl)
theorem dX4_asks_25 : decode cX4_asks 25 = .ok (.iload_n 2, 1) := dk_28 (dk_at dksX4_asks_1 3 rfl rfl)
theorem dX4_asks_26 : decode cX4_asks 26 = .ok (.bipush 13, 2) := dk_16 13 (dk_at dksX4_asks_1 4 rfl rfl)
theorem dX4_asks_28 : decode cX4_asks 28 = .ok (.iadd, 1) := dk_96 (dk_at dksX4_asks_1 6 rfl rfl)
theorem dX4_asks_29 : decode cX4_asks 29 = .ok (.iload_n 3, 1) := dk_29 (dk_at dksX4_asks_1 7 rfl rfl)
theorem dX4_asks_30 : decode cX4_asks 30 = .ok (.iadd, 1) := dk_96 (dk_at dksX4_asks_1 8 rfl rfl)
theorem dX4_asks_31 : decode cX4_asks 31 = .ok (.iaload, 1) := dk_46 (dk_at dksX4_asks_1 9 rfl rfl)
theorem dX4_asks_32 : decode cX4_asks 32 = .ok (.iastore, 1) := dk_79 (dk_at dksX4_asks_1 10 rfl rfl)
theorem dX4_asks_33 : decode cX4_asks 33 = .ok (.aload_n 0, 1) := dk_42 (dk_at dksX4_asks_1 11 rfl rfl)
theorem dX4_asks_34 : decode cX4_asks 34 = .ok (.getfield 72, 3) := dk_180 0 72 (dk_at dksX4_asks_1 12 rfl rfl)
theorem dX4_asks_37 : decode cX4_asks 37 = .ok (.iconst 2, 1) := dk_5 (dk_at dksX4_asks_1 15 rfl rfl)
theorem dX4_asks_38 : decode cX4_asks 38 = .ok (.aload_n 0, 1) := dk_42 (dk_at dksX4_asks_1 16 rfl rfl)
theorem dX4_asks_39 : decode cX4_asks 39 = .ok (.getfield 66, 3) := dk_180 0 66 (dk_at dksX4_asks_1 17 rfl rfl)
theorem dX4_asks_42 : decode cX4_asks 42 = .ok (.iload_n 2, 1) := dk_28 (dk_at dksX4_asks_1 20 rfl rfl)
theorem dX4_asks_43 : decode cX4_asks 43 = .ok (.bipush 25, 2) := dk_16 25 (dk_at dksX4_asks_1 21 rfl rfl)
theorem dX4_asks_45 : decode cX4_asks 45 = .ok (.iadd, 1) := dk_96 (dk_at dksX4_asks_1 23 rfl rfl)
theorem dX4_asks_46 : decode cX4_asks 46 = .ok (.iload_n 3, 1) := dk_29 (dk_at dksX4_asks_2 0 rfl rfl)
theorem dX4_asks_47 : decode cX4_asks 47 = .ok (.iadd, 1) := dk_96 (dk_at dksX4_asks_2 1 rfl rfl)
theorem dX4_asks_48 : decode cX4_asks 48 = .ok (.iaload, 1) := dk_46 (dk_at dksX4_asks_2 2 rfl rfl)
theorem dX4_asks_49 : decode cX4_asks 49 = .ok (.iastore, 1) := dk_79 (dk_at dksX4_asks_2 3 rfl rfl)
theorem dX4_asks_50 : decode cX4_asks 50 = .ok (.aload_n 0, 1) := dk_42 (dk_at dksX4_asks_2 4 rfl rfl)
theorem dX4_asks_51 : decode cX4_asks 51 = .ok (.getfield 72, 3) := dk_180 0 72 (dk_at dksX4_asks_2 5 rfl rfl)
theorem dX4_asks_54 : decode cX4_asks 54 = .ok (.iconst 3, 1) := dk_6 (dk_at dksX4_asks_2 8 rfl rfl)
theorem dX4_asks_55 : decode cX4_asks 55 = .ok (.aload_n 0, 1) := dk_42 (dk_at dksX4_asks_2 9 rfl rfl)
theorem dX4_asks_56 : decode cX4_asks 56 = .ok (.iload_n 2, 1) := dk_28 (dk_at dksX4_asks_2 10 rfl rfl)
theorem dX4_asks_57 : decode cX4_asks 57 = .ok (.iload_n 3, 1) := dk_29 (dk_at dksX4_asks_2 11 rfl rfl)
theorem dX4_asks_58 : decode cX4_asks 58 = .ok (.invokevirtual 314, 3) := dk_182 1 58 (dk_at dksX4_asks_2 12 rfl rfl)
theorem dX4_asks_61 : decode cX4_asks 61 = .ok (.iastore, 1) := dk_79 (dk_at dksX4_asks_2 15 rfl rfl)
theorem dX4_asks_62 : decode cX4_asks 62 = .ok (.aload_n 0, 1) := dk_42 (dk_at dksX4_asks_2 16 rfl rfl)
theorem dX4_asks_63 : decode cX4_asks 63 = .ok (.getfield 72, 3) := dk_180 0 72 (dk_at dksX4_asks_2 17 rfl rfl)
theorem dX4_asks_66 : decode cX4_asks 66 = .ok (.iconst 4, 1) := dk_7 (dk_at dksX4_asks_2 20 rfl rfl)
theorem dX4_asks_67 : decode cX4_asks 67 = .ok (.aload_n 0, 1) := dk_42 (dk_at dksX4_asks_2 21 rfl rfl)
theorem dX4_asks_68 : decode cX4_asks 68 = .ok (.iload_n 2, 1) := dk_28 (dk_at dksX4_asks_2 22 rfl rfl)
theorem dX4_asks_69 : decode cX4_asks 69 = .ok (.iload_n 3, 1) := dk_29 (dk_at dksX4_asks_2 23 rfl rfl)
theorem dX4_asks_70 : decode cX4_asks 70 = .ok (.invokevirtual 317, 3) := dk_182 1 61 (dk_at dksX4_asks_3 0 rfl rfl)
theorem dX4_asks_73 : decode cX4_asks 73 = .ok (.invokestatic 320, 3) := dk_184 1 64 (dk_at dksX4_asks_3 3 rfl rfl)
theorem dX4_asks_76 : decode cX4_asks 76 = .ok (.iastore, 1) := dk_79 (dk_at dksX4_asks_3 6 rfl rfl)
theorem dX4_asks_77 : decode cX4_asks 77 = .ok (.aload_n 0, 1) := dk_42 (dk_at dksX4_asks_3 7 rfl rfl)
theorem dX4_asks_78 : decode cX4_asks 78 = .ok (.getfield 72, 3) := dk_180 0 72 (dk_at dksX4_asks_3 8 rfl rfl)
theorem dX4_asks_81 : decode cX4_asks 81 = .ok (.iconst 5, 1) := dk_8 (dk_at dksX4_asks_3 11 rfl rfl)
theorem dX4_asks_82 : decode cX4_asks 82 = .ok (.aload_n 0, 1) := dk_42 (dk_at dksX4_asks_3 12 rfl rfl)
theorem dX4_asks_83 : decode cX4_asks 83 = .ok (.getfield 66, 3) := dk_180 0 66 (dk_at dksX4_asks_3 13 rfl rfl)
theorem dX4_asks_86 : decode cX4_asks 86 = .ok (.iload_n 2, 1) := dk_28 (dk_at dksX4_asks_3 16 rfl rfl)
theorem dX4_asks_87 : decode cX4_asks 87 = .ok (.iconst 0, 1) := dk_3 (dk_at dksX4_asks_3 17 rfl rfl)
theorem dX4_asks_88 : decode cX4_asks 88 = .ok (.iadd, 1) := dk_96 (dk_at dksX4_asks_3 18 rfl rfl)
theorem dX4_asks_89 : decode cX4_asks 89 = .ok (.iaload, 1) := dk_46 (dk_at dksX4_asks_3 19 rfl rfl)
theorem dX4_asks_90 : decode cX4_asks 90 = .ok (.iastore, 1) := dk_79 (dk_at dksX4_asks_3 20 rfl rfl)
theorem dX4_asks_91 : decode cX4_asks 91 = .ok (.aload_n 0, 1) := dk_42 (dk_at dksX4_asks_3 21 rfl rfl)
theorem dX4_asks_92 : decode cX4_asks 92 = .ok (.iload_n 1, 1) := dk_27 (dk_at dksX4_asks_3 22 rfl rfl)
theorem dX4_asks_93 : decode cX4_asks 93 = .ok (.invokevirtual 323, 3) := dk_182 1 67 (dk_at dksX4_asks_4 0 rfl rfl)
theorem dX4_asks_96 : decode cX4_asks 96 = .ok (.ireturn, 1) := dk_172 (dk_at dksX4_asks_4 3 rfl rfl)
abbrev cX4_bounded : ByteArray := prog_12_method_5_code
def yX4_bounded : MethodName := ⟨RX4, "bounded", "(III)I"⟩
def dkwX4_bounded_0 : List UInt8 := [26, 27, 162, 0, 7, 27, 167, 0, 13, 26, 28, 164, 0, 7, 28, 167, 0, 4, 26, 172]
abbrev dktX4_bounded_0 : List UInt8 := dkwX4_bounded_0 ++ []
theorem dksX4_bounded_0 : cX4_bounded.data.toList.drop 0 = dktX4_bounded_0 := by decide +kernel
theorem dX4_bounded_0 : decode cX4_bounded 0 = .ok (.iload_n 0, 1) := dk_26 (dk_at dksX4_bounded_0 0 rfl rfl)
theorem dX4_bounded_1 : decode cX4_bounded 1 = .ok (.iload_n 1, 1) := dk_27 (dk_at dksX4_bounded_0 1 rfl rfl)
theorem dX4_bounded_2 : decode cX4_bounded 2 = .ok (.if_icmp .ge 7, 3) := dk_162 0 7 (dk_at dksX4_bounded_0 2 rfl rfl)
theorem dX4_bounded_5 : decode cX4_bounded 5 = .ok (.iload_n 1, 1) := dk_27 (dk_at dksX4_bounded_0 5 rfl rfl)
theorem dX4_bounded_6 : decode cX4_bounded 6 = .ok (.goto 13, 3) := dk_167 0 13 (dk_at dksX4_bounded_0 6 rfl rfl)
theorem dX4_bounded_9 : decode cX4_bounded 9 = .ok (.iload_n 0, 1) := dk_26 (dk_at dksX4_bounded_0 9 rfl rfl)
theorem dX4_bounded_10 : decode cX4_bounded 10 = .ok (.iload_n 2, 1) := dk_28 (dk_at dksX4_bounded_0 10 rfl rfl)
theorem dX4_bounded_11 : decode cX4_bounded 11 = .ok (.if_icmp .le 7, 3) := dk_164 0 7 (dk_at dksX4_bounded_0 11 rfl rfl)
theorem dX4_bounded_14 : decode cX4_bounded 14 = .ok (.iload_n 2, 1) := dk_28 (dk_at dksX4_bounded_0 14 rfl rfl)
theorem dX4_bounded_15 : decode cX4_bounded 15 = .ok (.goto 4, 3) := dk_167 0 4 (dk_at dksX4_bounded_0 15 rfl rfl)
theorem dX4_bounded_18 : decode cX4_bounded 18 = .ok (.iload_n 0, 1) := dk_26 (dk_at dksX4_bounded_0 18 rfl rfl)
theorem dX4_bounded_19 : decode cX4_bounded 19 = .ok (.ireturn, 1) := dk_172 (dk_at dksX4_bounded_0 19 rfl rfl)
abbrev cX4_fraysOf : ByteArray := prog_12_method_55_code
def yX4_fraysOf : MethodName := ⟨RX4, "fraysOf", "(II)I"⟩
def dkwX4_fraysOf_2 : List UInt8 := [167, 0, 13, 42, 42, 180, 0, 16, 27, 28, 182, 1, 74, 3, 16, 20, 184, 1, 77, 172]
abbrev dktX4_fraysOf_2 : List UInt8 := dkwX4_fraysOf_2 ++ []
def dkwX4_fraysOf_1 : List UInt8 := [4, 96, 28, 96, 46, 16, 9, 108, 42, 180, 0, 66, 27, 16, 25, 96, 28, 96, 46, 4, 96, 108]
abbrev dktX4_fraysOf_1 : List UInt8 := dkwX4_fraysOf_1 ++ dktX4_fraysOf_2
def dkwX4_fraysOf_0 : List UInt8 := [42, 27, 28, 182, 1, 70, 153, 0, 5, 3, 172, 42, 180, 0, 16, 2, 160, 0, 33, 42, 180, 0, 66, 27]
abbrev dktX4_fraysOf_0 : List UInt8 := dkwX4_fraysOf_0 ++ dktX4_fraysOf_1
theorem dksX4_fraysOf_0 : cX4_fraysOf.data.toList.drop 0 = dktX4_fraysOf_0 := by decide +kernel
theorem dksX4_fraysOf_1 : cX4_fraysOf.data.toList.drop 24 = dktX4_fraysOf_1 := dk_seg dksX4_fraysOf_0 24 rfl rfl
theorem dksX4_fraysOf_2 : cX4_fraysOf.data.toList.drop 46 = dktX4_fraysOf_2 := dk_seg dksX4_fraysOf_1 22 rfl rfl
theorem dX4_fraysOf_0 : decode cX4_fraysOf 0 = .ok (.aload_n 0, 1) := dk_42 (dk_at dksX4_fraysOf_0 0 rfl rfl)
theorem dX4_fraysOf_1 : decode cX4_fraysOf 1 = .ok (.iload_n 1, 1) := dk_27 (dk_at dksX4_fraysOf_0 1 rfl rfl)
theorem dX4_fraysOf_2 : decode cX4_fraysOf 2 = .ok (.iload_n 2, 1) := dk_28 (dk_at dksX4_fraysOf_0 2 rfl rfl)
theorem dX4_fraysOf_3 : decode cX4_fraysOf 3 = .ok (.invokevirtual 326, 3) := dk_182 1 70 (dk_at dksX4_fraysOf_0 3 rfl rfl)
theorem dX4_fraysOf_6 : decode cX4_fraysOf 6 = .ok (.ifCond .eq 5, 3) := dk_153 0 5 (dk_at dksX4_fraysOf_0 6 rfl rfl)
theorem dX4_fraysOf_9 : decode cX4_fraysOf 9 = .ok (.iconst 0, 1) := dk_3 (dk_at dksX4_fraysOf_0 9 rfl rfl)
theorem dX4_fraysOf_10 : decode cX4_fraysOf 10 = .ok (.ireturn, 1) := dk_172 (dk_at dksX4_fraysOf_0 10 rfl rfl)
theorem dX4_fraysOf_11 : decode cX4_fraysOf 11 = .ok (.aload_n 0, 1) := dk_42 (dk_at dksX4_fraysOf_0 11 rfl rfl)
theorem dX4_fraysOf_12 : decode cX4_fraysOf 12 = .ok (.getfield 16, 3) := dk_180 0 16 (dk_at dksX4_fraysOf_0 12 rfl rfl)
theorem dX4_fraysOf_15 : decode cX4_fraysOf 15 = .ok (.iconst (-1), 1) := dk_2 (dk_at dksX4_fraysOf_0 15 rfl rfl)
theorem dX4_fraysOf_16 : decode cX4_fraysOf 16 = .ok (.if_icmp .ne 33, 3) := dk_160 0 33 (dk_at dksX4_fraysOf_0 16 rfl rfl)
theorem dX4_fraysOf_19 : decode cX4_fraysOf 19 = .ok (.aload_n 0, 1) := dk_42 (dk_at dksX4_fraysOf_0 19 rfl rfl)
theorem dX4_fraysOf_20 : decode cX4_fraysOf 20 = .ok (.getfield 66, 3) := dk_180 0 66 (dk_at dksX4_fraysOf_0 20 rfl rfl)
theorem dX4_fraysOf_23 : decode cX4_fraysOf 23 = .ok (.iload_n 1, 1) := dk_27 (dk_at dksX4_fraysOf_0 23 rfl rfl)
theorem dX4_fraysOf_24 : decode cX4_fraysOf 24 = .ok (.iconst 1, 1) := dk_4 (dk_at dksX4_fraysOf_1 0 rfl rfl)
theorem dX4_fraysOf_25 : decode cX4_fraysOf 25 = .ok (.iadd, 1) := dk_96 (dk_at dksX4_fraysOf_1 1 rfl rfl)
theorem dX4_fraysOf_26 : decode cX4_fraysOf 26 = .ok (.iload_n 2, 1) := dk_28 (dk_at dksX4_fraysOf_1 2 rfl rfl)
theorem dX4_fraysOf_27 : decode cX4_fraysOf 27 = .ok (.iadd, 1) := dk_96 (dk_at dksX4_fraysOf_1 3 rfl rfl)
theorem dX4_fraysOf_28 : decode cX4_fraysOf 28 = .ok (.iaload, 1) := dk_46 (dk_at dksX4_fraysOf_1 4 rfl rfl)
theorem dX4_fraysOf_29 : decode cX4_fraysOf 29 = .ok (.bipush 9, 2) := dk_16 9 (dk_at dksX4_fraysOf_1 5 rfl rfl)
theorem dX4_fraysOf_31 : decode cX4_fraysOf 31 = .ok (.idiv, 1) := dk_108 (dk_at dksX4_fraysOf_1 7 rfl rfl)
theorem dX4_fraysOf_32 : decode cX4_fraysOf 32 = .ok (.aload_n 0, 1) := dk_42 (dk_at dksX4_fraysOf_1 8 rfl rfl)
theorem dX4_fraysOf_33 : decode cX4_fraysOf 33 = .ok (.getfield 66, 3) := dk_180 0 66 (dk_at dksX4_fraysOf_1 9 rfl rfl)
theorem dX4_fraysOf_36 : decode cX4_fraysOf 36 = .ok (.iload_n 1, 1) := dk_27 (dk_at dksX4_fraysOf_1 12 rfl rfl)
theorem dX4_fraysOf_37 : decode cX4_fraysOf 37 = .ok (.bipush 25, 2) := dk_16 25 (dk_at dksX4_fraysOf_1 13 rfl rfl)
theorem dX4_fraysOf_39 : decode cX4_fraysOf 39 = .ok (.iadd, 1) := dk_96 (dk_at dksX4_fraysOf_1 15 rfl rfl)
theorem dX4_fraysOf_40 : decode cX4_fraysOf 40 = .ok (.iload_n 2, 1) := dk_28 (dk_at dksX4_fraysOf_1 16 rfl rfl)
theorem dX4_fraysOf_41 : decode cX4_fraysOf 41 = .ok (.iadd, 1) := dk_96 (dk_at dksX4_fraysOf_1 17 rfl rfl)
theorem dX4_fraysOf_42 : decode cX4_fraysOf 42 = .ok (.iaload, 1) := dk_46 (dk_at dksX4_fraysOf_1 18 rfl rfl)
theorem dX4_fraysOf_43 : decode cX4_fraysOf 43 = .ok (.iconst 1, 1) := dk_4 (dk_at dksX4_fraysOf_1 19 rfl rfl)
theorem dX4_fraysOf_44 : decode cX4_fraysOf 44 = .ok (.iadd, 1) := dk_96 (dk_at dksX4_fraysOf_1 20 rfl rfl)
theorem dX4_fraysOf_45 : decode cX4_fraysOf 45 = .ok (.idiv, 1) := dk_108 (dk_at dksX4_fraysOf_1 21 rfl rfl)
theorem dX4_fraysOf_46 : decode cX4_fraysOf 46 = .ok (.goto 13, 3) := dk_167 0 13 (dk_at dksX4_fraysOf_2 0 rfl rfl)
theorem dX4_fraysOf_49 : decode cX4_fraysOf 49 = .ok (.aload_n 0, 1) := dk_42 (dk_at dksX4_fraysOf_2 3 rfl rfl)
theorem dX4_fraysOf_50 : decode cX4_fraysOf 50 = .ok (.aload_n 0, 1) := dk_42 (dk_at dksX4_fraysOf_2 4 rfl rfl)
theorem dX4_fraysOf_51 : decode cX4_fraysOf 51 = .ok (.getfield 16, 3) := dk_180 0 16 (dk_at dksX4_fraysOf_2 5 rfl rfl)
theorem dX4_fraysOf_54 : decode cX4_fraysOf 54 = .ok (.iload_n 1, 1) := dk_27 (dk_at dksX4_fraysOf_2 8 rfl rfl)
theorem dX4_fraysOf_55 : decode cX4_fraysOf 55 = .ok (.iload_n 2, 1) := dk_28 (dk_at dksX4_fraysOf_2 9 rfl rfl)
theorem dX4_fraysOf_56 : decode cX4_fraysOf 56 = .ok (.invokevirtual 330, 3) := dk_182 1 74 (dk_at dksX4_fraysOf_2 10 rfl rfl)
theorem dX4_fraysOf_59 : decode cX4_fraysOf 59 = .ok (.iconst 0, 1) := dk_3 (dk_at dksX4_fraysOf_2 13 rfl rfl)
theorem dX4_fraysOf_60 : decode cX4_fraysOf 60 = .ok (.bipush 20, 2) := dk_16 20 (dk_at dksX4_fraysOf_2 14 rfl rfl)
theorem dX4_fraysOf_62 : decode cX4_fraysOf 62 = .ok (.invokestatic 333, 3) := dk_184 1 77 (dk_at dksX4_fraysOf_2 16 rfl rfl)
theorem dX4_fraysOf_65 : decode cX4_fraysOf 65 = .ok (.ireturn, 1) := dk_172 (dk_at dksX4_fraysOf_2 19 rfl rfl)
abbrev cX4_isStretch : ByteArray := prog_12_method_66_code
def yX4_isStretch : MethodName := ⟨RX4, "isStretch", "(I)Z"⟩
def dkwX4_isStretch_0 : List UInt8 := [42, 27, 155, 0, 15, 27, 42, 180, 0, 7, 162, 0, 7, 4, 167, 0, 4, 3, 4, 182, 1, 21, 172]
abbrev dktX4_isStretch_0 : List UInt8 := dkwX4_isStretch_0 ++ []
theorem dksX4_isStretch_0 : cX4_isStretch.data.toList.drop 0 = dktX4_isStretch_0 := by decide +kernel
theorem dX4_isStretch_0 : decode cX4_isStretch 0 = .ok (.aload_n 0, 1) := dk_42 (dk_at dksX4_isStretch_0 0 rfl rfl)
theorem dX4_isStretch_1 : decode cX4_isStretch 1 = .ok (.iload_n 1, 1) := dk_27 (dk_at dksX4_isStretch_0 1 rfl rfl)
theorem dX4_isStretch_2 : decode cX4_isStretch 2 = .ok (.ifCond .lt 15, 3) := dk_155 0 15 (dk_at dksX4_isStretch_0 2 rfl rfl)
theorem dX4_isStretch_5 : decode cX4_isStretch 5 = .ok (.iload_n 1, 1) := dk_27 (dk_at dksX4_isStretch_0 5 rfl rfl)
theorem dX4_isStretch_6 : decode cX4_isStretch 6 = .ok (.aload_n 0, 1) := dk_42 (dk_at dksX4_isStretch_0 6 rfl rfl)
theorem dX4_isStretch_7 : decode cX4_isStretch 7 = .ok (.getfield 7, 3) := dk_180 0 7 (dk_at dksX4_isStretch_0 7 rfl rfl)
theorem dX4_isStretch_10 : decode cX4_isStretch 10 = .ok (.if_icmp .ge 7, 3) := dk_162 0 7 (dk_at dksX4_isStretch_0 10 rfl rfl)
theorem dX4_isStretch_13 : decode cX4_isStretch 13 = .ok (.iconst 1, 1) := dk_4 (dk_at dksX4_isStretch_0 13 rfl rfl)
theorem dX4_isStretch_14 : decode cX4_isStretch 14 = .ok (.goto 4, 3) := dk_167 0 4 (dk_at dksX4_isStretch_0 14 rfl rfl)
theorem dX4_isStretch_17 : decode cX4_isStretch 17 = .ok (.iconst 0, 1) := dk_3 (dk_at dksX4_isStretch_0 17 rfl rfl)
theorem dX4_isStretch_18 : decode cX4_isStretch 18 = .ok (.iconst 1, 1) := dk_4 (dk_at dksX4_isStretch_0 18 rfl rfl)
theorem dX4_isStretch_19 : decode cX4_isStretch 19 = .ok (.invokevirtual 277, 3) := dk_182 1 21 (dk_at dksX4_isStretch_0 19 rfl rfl)
theorem dX4_isStretch_22 : decode cX4_isStretch 22 = .ok (.ireturn, 1) := dk_172 (dk_at dksX4_isStretch_0 22 rfl rfl)
abbrev cX4_isWhat : ByteArray := prog_12_method_68_code
def yX4_isWhat : MethodName := ⟨RX4, "isWhat", "(II)Z"⟩
def dkwX4_isWhat_0 : List UInt8 := [42, 27, 3, 28, 184, 1, 106, 4, 182, 1, 21, 172]
abbrev dktX4_isWhat_0 : List UInt8 := dkwX4_isWhat_0 ++ []
theorem dksX4_isWhat_0 : cX4_isWhat.data.toList.drop 0 = dktX4_isWhat_0 := by decide +kernel
theorem dX4_isWhat_0 : decode cX4_isWhat 0 = .ok (.aload_n 0, 1) := dk_42 (dk_at dksX4_isWhat_0 0 rfl rfl)
theorem dX4_isWhat_1 : decode cX4_isWhat 1 = .ok (.iload_n 1, 1) := dk_27 (dk_at dksX4_isWhat_0 1 rfl rfl)
theorem dX4_isWhat_2 : decode cX4_isWhat 2 = .ok (.iconst 0, 1) := dk_3 (dk_at dksX4_isWhat_0 2 rfl rfl)
theorem dX4_isWhat_3 : decode cX4_isWhat 3 = .ok (.iload_n 2, 1) := dk_28 (dk_at dksX4_isWhat_0 3 rfl rfl)
theorem dX4_isWhat_4 : decode cX4_isWhat 4 = .ok (.invokestatic 362, 3) := dk_184 1 106 (dk_at dksX4_isWhat_0 4 rfl rfl)
theorem dX4_isWhat_7 : decode cX4_isWhat 7 = .ok (.iconst 1, 1) := dk_4 (dk_at dksX4_isWhat_0 7 rfl rfl)
theorem dX4_isWhat_8 : decode cX4_isWhat 8 = .ok (.invokevirtual 277, 3) := dk_182 1 21 (dk_at dksX4_isWhat_0 8 rfl rfl)
theorem dX4_isWhat_11 : decode cX4_isWhat 11 = .ok (.ireturn, 1) := dk_172 (dk_at dksX4_isWhat_0 11 rfl rfl)
abbrev cX4_pullsOf : ByteArray := prog_12_method_54_code
def yX4_pullsOf : MethodName := ⟨RX4, "pullsOf", "(II)I"⟩
def dkwX4_pullsOf_2 : List UInt8 := [180, 0, 19, 27, 28, 182, 1, 74, 16, 247, 16, 9, 184, 1, 77, 172]
abbrev dktX4_pullsOf_2 : List UInt8 := dkwX4_pullsOf_2 ++ []
def dkwX4_pullsOf_1 : List UInt8 := [182, 1, 58, 5, 42, 180, 0, 66, 27, 4, 96, 28, 96, 46, 104, 100, 16, 9, 108, 167, 0, 13, 42, 42]
abbrev dktX4_pullsOf_1 : List UInt8 := dkwX4_pullsOf_1 ++ dktX4_pullsOf_2
def dkwX4_pullsOf_0 : List UInt8 := [42, 27, 28, 182, 1, 70, 153, 0, 5, 3, 172, 42, 180, 0, 19, 2, 160, 0, 28, 42, 27, 28]
abbrev dktX4_pullsOf_0 : List UInt8 := dkwX4_pullsOf_0 ++ dktX4_pullsOf_1
theorem dksX4_pullsOf_0 : cX4_pullsOf.data.toList.drop 0 = dktX4_pullsOf_0 := by decide +kernel
theorem dksX4_pullsOf_1 : cX4_pullsOf.data.toList.drop 22 = dktX4_pullsOf_1 := dk_seg dksX4_pullsOf_0 22 rfl rfl
theorem dksX4_pullsOf_2 : cX4_pullsOf.data.toList.drop 46 = dktX4_pullsOf_2 := dk_seg dksX4_pullsOf_1 24 rfl rfl
theorem dX4_pullsOf_0 : decode cX4_pullsOf 0 = .ok (.aload_n 0, 1) := dk_42 (dk_at dksX4_pullsOf_0 0 rfl rfl)
theorem dX4_pullsOf_1 : decode cX4_pullsOf 1 = .ok (.iload_n 1, 1) := dk_27 (dk_at dksX4_pullsOf_0 1 rfl rfl)
theorem dX4_pullsOf_2 : decode cX4_pullsOf 2 = .ok (.iload_n 2, 1) := dk_28 (dk_at dksX4_pullsOf_0 2 rfl rfl)
theorem dX4_pullsOf_3 : decode cX4_pullsOf 3 = .ok (.invokevirtual 326, 3) := dk_182 1 70 (dk_at dksX4_pullsOf_0 3 rfl rfl)
theorem dX4_pullsOf_6 : decode cX4_pullsOf 6 = .ok (.ifCond .eq 5, 3) := dk_153 0 5 (dk_at dksX4_pullsOf_0 6 rfl rfl)
theorem dX4_pullsOf_9 : decode cX4_pullsOf 9 = .ok (.iconst 0, 1) := dk_3 (dk_at dksX4_pullsOf_0 9 rfl rfl)
theorem dX4_pullsOf_10 : decode cX4_pullsOf 10 = .ok (.ireturn, 1) := dk_172 (dk_at dksX4_pullsOf_0 10 rfl rfl)
theorem dX4_pullsOf_11 : decode cX4_pullsOf 11 = .ok (.aload_n 0, 1) := dk_42 (dk_at dksX4_pullsOf_0 11 rfl rfl)
theorem dX4_pullsOf_12 : decode cX4_pullsOf 12 = .ok (.getfield 19, 3) := dk_180 0 19 (dk_at dksX4_pullsOf_0 12 rfl rfl)
theorem dX4_pullsOf_15 : decode cX4_pullsOf 15 = .ok (.iconst (-1), 1) := dk_2 (dk_at dksX4_pullsOf_0 15 rfl rfl)
theorem dX4_pullsOf_16 : decode cX4_pullsOf 16 = .ok (.if_icmp .ne 28, 3) := dk_160 0 28 (dk_at dksX4_pullsOf_0 16 rfl rfl)
theorem dX4_pullsOf_19 : decode cX4_pullsOf 19 = .ok (.aload_n 0, 1) := dk_42 (dk_at dksX4_pullsOf_0 19 rfl rfl)
theorem dX4_pullsOf_20 : decode cX4_pullsOf 20 = .ok (.iload_n 1, 1) := dk_27 (dk_at dksX4_pullsOf_0 20 rfl rfl)
theorem dX4_pullsOf_21 : decode cX4_pullsOf 21 = .ok (.iload_n 2, 1) := dk_28 (dk_at dksX4_pullsOf_0 21 rfl rfl)
theorem dX4_pullsOf_22 : decode cX4_pullsOf 22 = .ok (.invokevirtual 314, 3) := dk_182 1 58 (dk_at dksX4_pullsOf_1 0 rfl rfl)
theorem dX4_pullsOf_25 : decode cX4_pullsOf 25 = .ok (.iconst 2, 1) := dk_5 (dk_at dksX4_pullsOf_1 3 rfl rfl)
theorem dX4_pullsOf_26 : decode cX4_pullsOf 26 = .ok (.aload_n 0, 1) := dk_42 (dk_at dksX4_pullsOf_1 4 rfl rfl)
theorem dX4_pullsOf_27 : decode cX4_pullsOf 27 = .ok (.getfield 66, 3) := dk_180 0 66 (dk_at dksX4_pullsOf_1 5 rfl rfl)
theorem dX4_pullsOf_30 : decode cX4_pullsOf 30 = .ok (.iload_n 1, 1) := dk_27 (dk_at dksX4_pullsOf_1 8 rfl rfl)
theorem dX4_pullsOf_31 : decode cX4_pullsOf 31 = .ok (.iconst 1, 1) := dk_4 (dk_at dksX4_pullsOf_1 9 rfl rfl)
theorem dX4_pullsOf_32 : decode cX4_pullsOf 32 = .ok (.iadd, 1) := dk_96 (dk_at dksX4_pullsOf_1 10 rfl rfl)
theorem dX4_pullsOf_33 : decode cX4_pullsOf 33 = .ok (.iload_n 2, 1) := dk_28 (dk_at dksX4_pullsOf_1 11 rfl rfl)
theorem dX4_pullsOf_34 : decode cX4_pullsOf 34 = .ok (.iadd, 1) := dk_96 (dk_at dksX4_pullsOf_1 12 rfl rfl)
theorem dX4_pullsOf_35 : decode cX4_pullsOf 35 = .ok (.iaload, 1) := dk_46 (dk_at dksX4_pullsOf_1 13 rfl rfl)
theorem dX4_pullsOf_36 : decode cX4_pullsOf 36 = .ok (.imul, 1) := dk_104 (dk_at dksX4_pullsOf_1 14 rfl rfl)
theorem dX4_pullsOf_37 : decode cX4_pullsOf 37 = .ok (.isub, 1) := dk_100 (dk_at dksX4_pullsOf_1 15 rfl rfl)
theorem dX4_pullsOf_38 : decode cX4_pullsOf 38 = .ok (.bipush 9, 2) := dk_16 9 (dk_at dksX4_pullsOf_1 16 rfl rfl)
theorem dX4_pullsOf_40 : decode cX4_pullsOf 40 = .ok (.idiv, 1) := dk_108 (dk_at dksX4_pullsOf_1 18 rfl rfl)
theorem dX4_pullsOf_41 : decode cX4_pullsOf 41 = .ok (.goto 13, 3) := dk_167 0 13 (dk_at dksX4_pullsOf_1 19 rfl rfl)
theorem dX4_pullsOf_44 : decode cX4_pullsOf 44 = .ok (.aload_n 0, 1) := dk_42 (dk_at dksX4_pullsOf_1 22 rfl rfl)
theorem dX4_pullsOf_45 : decode cX4_pullsOf 45 = .ok (.aload_n 0, 1) := dk_42 (dk_at dksX4_pullsOf_1 23 rfl rfl)
theorem dX4_pullsOf_46 : decode cX4_pullsOf 46 = .ok (.getfield 19, 3) := dk_180 0 19 (dk_at dksX4_pullsOf_2 0 rfl rfl)
theorem dX4_pullsOf_49 : decode cX4_pullsOf 49 = .ok (.iload_n 1, 1) := dk_27 (dk_at dksX4_pullsOf_2 3 rfl rfl)
theorem dX4_pullsOf_50 : decode cX4_pullsOf 50 = .ok (.iload_n 2, 1) := dk_28 (dk_at dksX4_pullsOf_2 4 rfl rfl)
theorem dX4_pullsOf_51 : decode cX4_pullsOf 51 = .ok (.invokevirtual 330, 3) := dk_182 1 74 (dk_at dksX4_pullsOf_2 5 rfl rfl)
theorem dX4_pullsOf_54 : decode cX4_pullsOf 54 = .ok (.bipush (-9), 2) := dk_16 247 (dk_at dksX4_pullsOf_2 8 rfl rfl)
theorem dX4_pullsOf_56 : decode cX4_pullsOf 56 = .ok (.bipush 9, 2) := dk_16 9 (dk_at dksX4_pullsOf_2 10 rfl rfl)
theorem dX4_pullsOf_58 : decode cX4_pullsOf 58 = .ok (.invokestatic 333, 3) := dk_184 1 77 (dk_at dksX4_pullsOf_2 12 rfl rfl)
theorem dX4_pullsOf_61 : decode cX4_pullsOf 61 = .ok (.ireturn, 1) := dk_172 (dk_at dksX4_pullsOf_2 15 rfl rfl)
abbrev cX4_stretch : ByteArray := prog_12_method_70_code
def yX4_stretch : MethodName := ⟨RX4, "stretch", "(II)I"⟩
def dkwX4_stretch_5 : List UInt8 := [182, 1, 87, 172]
abbrev dktX4_stretch_5 : List UInt8 := dkwX4_stretch_5 ++ []
def dkwX4_stretch_4 : List UInt8 := [16, 25, 27, 96, 46, 172, 42, 3, 27, 182, 1, 61, 172, 42, 3, 27, 182, 1, 90, 172, 42, 3, 27]
abbrev dktX4_stretch_4 : List UInt8 := dkwX4_stretch_4 ++ dktX4_stretch_5
def dkwX4_stretch_3 : List UInt8 := [42, 180, 0, 66, 4, 27, 96, 46, 172, 42, 180, 0, 66, 16, 13, 27, 96, 46, 172, 42, 180, 0, 66]
abbrev dktX4_stretch_3 : List UInt8 := dkwX4_stretch_3 ++ dktX4_stretch_4
def dkwX4_stretch_2 : List UInt8 := [170, 0, 0, 0, 0, 0, 78, 0, 0, 0, 0, 0, 0, 0, 4, 0, 0, 0, 35, 0, 0, 0, 44, 0, 0, 0, 54, 0, 0, 0, 64, 0, 0, 0, 71]
abbrev dktX4_stretch_2 : List UInt8 := dkwX4_stretch_2 ++ dktX4_stretch_3
def dkwX4_stretch_1 : List UInt8 := [28]
abbrev dktX4_stretch_1 : List UInt8 := dkwX4_stretch_1 ++ dktX4_stretch_2
def dkwX4_stretch_0 : List UInt8 := [42, 3, 181, 0, 117, 42, 27, 182, 1, 119, 153, 0, 12, 42, 28, 8, 182, 1, 122, 154, 0, 5, 3, 172]
abbrev dktX4_stretch_0 : List UInt8 := dkwX4_stretch_0 ++ dktX4_stretch_1
theorem dksX4_stretch_0 : cX4_stretch.data.toList.drop 0 = dktX4_stretch_0 := by decide +kernel
theorem dksX4_stretch_1 : cX4_stretch.data.toList.drop 24 = dktX4_stretch_1 := dk_seg dksX4_stretch_0 24 rfl rfl
theorem dksX4_stretch_2 : cX4_stretch.data.toList.drop 25 = dktX4_stretch_2 := dk_seg dksX4_stretch_1 1 rfl rfl
theorem dksX4_stretch_3 : cX4_stretch.data.toList.drop 60 = dktX4_stretch_3 := dk_seg dksX4_stretch_2 35 rfl rfl
theorem dksX4_stretch_4 : cX4_stretch.data.toList.drop 83 = dktX4_stretch_4 := dk_seg dksX4_stretch_3 23 rfl rfl
theorem dksX4_stretch_5 : cX4_stretch.data.toList.drop 106 = dktX4_stretch_5 := dk_seg dksX4_stretch_4 23 rfl rfl
theorem dX4_stretch_0 : decode cX4_stretch 0 = .ok (.aload_n 0, 1) := dk_42 (dk_at dksX4_stretch_0 0 rfl rfl)
theorem dX4_stretch_1 : decode cX4_stretch 1 = .ok (.iconst 0, 1) := dk_3 (dk_at dksX4_stretch_0 1 rfl rfl)
theorem dX4_stretch_2 : decode cX4_stretch 2 = .ok (.putfield 117, 3) := dk_181 0 117 (dk_at dksX4_stretch_0 2 rfl rfl)
theorem dX4_stretch_5 : decode cX4_stretch 5 = .ok (.aload_n 0, 1) := dk_42 (dk_at dksX4_stretch_0 5 rfl rfl)
theorem dX4_stretch_6 : decode cX4_stretch 6 = .ok (.iload_n 1, 1) := dk_27 (dk_at dksX4_stretch_0 6 rfl rfl)
theorem dX4_stretch_7 : decode cX4_stretch 7 = .ok (.invokevirtual 375, 3) := dk_182 1 119 (dk_at dksX4_stretch_0 7 rfl rfl)
theorem dX4_stretch_10 : decode cX4_stretch 10 = .ok (.ifCond .eq 12, 3) := dk_153 0 12 (dk_at dksX4_stretch_0 10 rfl rfl)
theorem dX4_stretch_13 : decode cX4_stretch 13 = .ok (.aload_n 0, 1) := dk_42 (dk_at dksX4_stretch_0 13 rfl rfl)
theorem dX4_stretch_14 : decode cX4_stretch 14 = .ok (.iload_n 2, 1) := dk_28 (dk_at dksX4_stretch_0 14 rfl rfl)
theorem dX4_stretch_15 : decode cX4_stretch 15 = .ok (.iconst 5, 1) := dk_8 (dk_at dksX4_stretch_0 15 rfl rfl)
theorem dX4_stretch_16 : decode cX4_stretch 16 = .ok (.invokevirtual 378, 3) := dk_182 1 122 (dk_at dksX4_stretch_0 16 rfl rfl)
theorem dX4_stretch_19 : decode cX4_stretch 19 = .ok (.ifCond .ne 5, 3) := dk_154 0 5 (dk_at dksX4_stretch_0 19 rfl rfl)
theorem dX4_stretch_22 : decode cX4_stretch 22 = .ok (.iconst 0, 1) := dk_3 (dk_at dksX4_stretch_0 22 rfl rfl)
theorem dX4_stretch_23 : decode cX4_stretch 23 = .ok (.ireturn, 1) := dk_172 (dk_at dksX4_stretch_0 23 rfl rfl)
theorem dX4_stretch_24 : decode cX4_stretch 24 = .ok (.iload_n 2, 1) := dk_28 (dk_at dksX4_stretch_1 0 rfl rfl)
theorem dX4_stretch_25 : decode cX4_stretch 25 = .ok (.tableswitch 78 0 4 #[35, 44, 54, 64, 71], 35) := by decide +kernel
theorem dX4_stretch_60 : decode cX4_stretch 60 = .ok (.aload_n 0, 1) := dk_42 (dk_at dksX4_stretch_3 0 rfl rfl)
theorem dX4_stretch_61 : decode cX4_stretch 61 = .ok (.getfield 66, 3) := dk_180 0 66 (dk_at dksX4_stretch_3 1 rfl rfl)
theorem dX4_stretch_64 : decode cX4_stretch 64 = .ok (.iconst 1, 1) := dk_4 (dk_at dksX4_stretch_3 4 rfl rfl)
theorem dX4_stretch_65 : decode cX4_stretch 65 = .ok (.iload_n 1, 1) := dk_27 (dk_at dksX4_stretch_3 5 rfl rfl)
theorem dX4_stretch_66 : decode cX4_stretch 66 = .ok (.iadd, 1) := dk_96 (dk_at dksX4_stretch_3 6 rfl rfl)
theorem dX4_stretch_67 : decode cX4_stretch 67 = .ok (.iaload, 1) := dk_46 (dk_at dksX4_stretch_3 7 rfl rfl)
theorem dX4_stretch_68 : decode cX4_stretch 68 = .ok (.ireturn, 1) := dk_172 (dk_at dksX4_stretch_3 8 rfl rfl)
theorem dX4_stretch_69 : decode cX4_stretch 69 = .ok (.aload_n 0, 1) := dk_42 (dk_at dksX4_stretch_3 9 rfl rfl)
theorem dX4_stretch_70 : decode cX4_stretch 70 = .ok (.getfield 66, 3) := dk_180 0 66 (dk_at dksX4_stretch_3 10 rfl rfl)
theorem dX4_stretch_73 : decode cX4_stretch 73 = .ok (.bipush 13, 2) := dk_16 13 (dk_at dksX4_stretch_3 13 rfl rfl)
theorem dX4_stretch_75 : decode cX4_stretch 75 = .ok (.iload_n 1, 1) := dk_27 (dk_at dksX4_stretch_3 15 rfl rfl)
theorem dX4_stretch_76 : decode cX4_stretch 76 = .ok (.iadd, 1) := dk_96 (dk_at dksX4_stretch_3 16 rfl rfl)
theorem dX4_stretch_77 : decode cX4_stretch 77 = .ok (.iaload, 1) := dk_46 (dk_at dksX4_stretch_3 17 rfl rfl)
theorem dX4_stretch_78 : decode cX4_stretch 78 = .ok (.ireturn, 1) := dk_172 (dk_at dksX4_stretch_3 18 rfl rfl)
theorem dX4_stretch_79 : decode cX4_stretch 79 = .ok (.aload_n 0, 1) := dk_42 (dk_at dksX4_stretch_3 19 rfl rfl)
theorem dX4_stretch_80 : decode cX4_stretch 80 = .ok (.getfield 66, 3) := dk_180 0 66 (dk_at dksX4_stretch_3 20 rfl rfl)
theorem dX4_stretch_83 : decode cX4_stretch 83 = .ok (.bipush 25, 2) := dk_16 25 (dk_at dksX4_stretch_4 0 rfl rfl)
theorem dX4_stretch_85 : decode cX4_stretch 85 = .ok (.iload_n 1, 1) := dk_27 (dk_at dksX4_stretch_4 2 rfl rfl)
theorem dX4_stretch_86 : decode cX4_stretch 86 = .ok (.iadd, 1) := dk_96 (dk_at dksX4_stretch_4 3 rfl rfl)
theorem dX4_stretch_87 : decode cX4_stretch 87 = .ok (.iaload, 1) := dk_46 (dk_at dksX4_stretch_4 4 rfl rfl)
theorem dX4_stretch_88 : decode cX4_stretch 88 = .ok (.ireturn, 1) := dk_172 (dk_at dksX4_stretch_4 5 rfl rfl)
theorem dX4_stretch_89 : decode cX4_stretch 89 = .ok (.aload_n 0, 1) := dk_42 (dk_at dksX4_stretch_4 6 rfl rfl)
theorem dX4_stretch_90 : decode cX4_stretch 90 = .ok (.iconst 0, 1) := dk_3 (dk_at dksX4_stretch_4 7 rfl rfl)
theorem dX4_stretch_91 : decode cX4_stretch 91 = .ok (.iload_n 1, 1) := dk_27 (dk_at dksX4_stretch_4 8 rfl rfl)
theorem dX4_stretch_92 : decode cX4_stretch 92 = .ok (.invokevirtual 317, 3) := dk_182 1 61 (dk_at dksX4_stretch_4 9 rfl rfl)
theorem dX4_stretch_95 : decode cX4_stretch 95 = .ok (.ireturn, 1) := dk_172 (dk_at dksX4_stretch_4 12 rfl rfl)
theorem dX4_stretch_96 : decode cX4_stretch 96 = .ok (.aload_n 0, 1) := dk_42 (dk_at dksX4_stretch_4 13 rfl rfl)
theorem dX4_stretch_97 : decode cX4_stretch 97 = .ok (.iconst 0, 1) := dk_3 (dk_at dksX4_stretch_4 14 rfl rfl)
theorem dX4_stretch_98 : decode cX4_stretch 98 = .ok (.iload_n 1, 1) := dk_27 (dk_at dksX4_stretch_4 15 rfl rfl)
theorem dX4_stretch_99 : decode cX4_stretch 99 = .ok (.invokevirtual 346, 3) := dk_182 1 90 (dk_at dksX4_stretch_4 16 rfl rfl)
theorem dX4_stretch_102 : decode cX4_stretch 102 = .ok (.ireturn, 1) := dk_172 (dk_at dksX4_stretch_4 19 rfl rfl)
theorem dX4_stretch_103 : decode cX4_stretch 103 = .ok (.aload_n 0, 1) := dk_42 (dk_at dksX4_stretch_4 20 rfl rfl)
theorem dX4_stretch_104 : decode cX4_stretch 104 = .ok (.iconst 0, 1) := dk_3 (dk_at dksX4_stretch_4 21 rfl rfl)
theorem dX4_stretch_105 : decode cX4_stretch 105 = .ok (.iload_n 1, 1) := dk_27 (dk_at dksX4_stretch_4 22 rfl rfl)
theorem dX4_stretch_106 : decode cX4_stretch 106 = .ok (.invokevirtual 343, 3) := dk_182 1 87 (dk_at dksX4_stretch_5 0 rfl rfl)
theorem dX4_stretch_109 : decode cX4_stretch 109 = .ok (.ireturn, 1) := dk_172 (dk_at dksX4_stretch_5 3 rfl rfl)
abbrev cX4_isWoman : ByteArray := prog_12_method_67_code
def yX4_isWoman : MethodName := ⟨RX4, "isWoman", "(I)Z"⟩
def dkwX4_isWoman_0 : List UInt8 := [42, 27, 155, 0, 15, 27, 42, 180, 1, 28, 162, 0, 7, 4, 167, 0, 4, 3, 4, 182, 1, 21, 172]
abbrev dktX4_isWoman_0 : List UInt8 := dkwX4_isWoman_0 ++ []
theorem dksX4_isWoman_0 : cX4_isWoman.data.toList.drop 0 = dktX4_isWoman_0 := by decide +kernel
theorem dX4_isWoman_0 : decode cX4_isWoman 0 = .ok (.aload_n 0, 1) := dk_42 (dk_at dksX4_isWoman_0 0 rfl rfl)
theorem dX4_isWoman_1 : decode cX4_isWoman 1 = .ok (.iload_n 1, 1) := dk_27 (dk_at dksX4_isWoman_0 1 rfl rfl)
theorem dX4_isWoman_2 : decode cX4_isWoman 2 = .ok (.ifCond .lt 15, 3) := dk_155 0 15 (dk_at dksX4_isWoman_0 2 rfl rfl)
theorem dX4_isWoman_5 : decode cX4_isWoman 5 = .ok (.iload_n 1, 1) := dk_27 (dk_at dksX4_isWoman_0 5 rfl rfl)
theorem dX4_isWoman_6 : decode cX4_isWoman 6 = .ok (.aload_n 0, 1) := dk_42 (dk_at dksX4_isWoman_0 6 rfl rfl)
theorem dX4_isWoman_7 : decode cX4_isWoman 7 = .ok (.getfield 284, 3) := dk_180 1 28 (dk_at dksX4_isWoman_0 7 rfl rfl)
theorem dX4_isWoman_10 : decode cX4_isWoman 10 = .ok (.if_icmp .ge 7, 3) := dk_162 0 7 (dk_at dksX4_isWoman_0 10 rfl rfl)
theorem dX4_isWoman_13 : decode cX4_isWoman 13 = .ok (.iconst 1, 1) := dk_4 (dk_at dksX4_isWoman_0 13 rfl rfl)
theorem dX4_isWoman_14 : decode cX4_isWoman 14 = .ok (.goto 4, 3) := dk_167 0 4 (dk_at dksX4_isWoman_0 14 rfl rfl)
theorem dX4_isWoman_17 : decode cX4_isWoman 17 = .ok (.iconst 0, 1) := dk_3 (dk_at dksX4_isWoman_0 17 rfl rfl)
theorem dX4_isWoman_18 : decode cX4_isWoman 18 = .ok (.iconst 1, 1) := dk_4 (dk_at dksX4_isWoman_0 18 rfl rfl)
theorem dX4_isWoman_19 : decode cX4_isWoman 19 = .ok (.invokevirtual 277, 3) := dk_182 1 21 (dk_at dksX4_isWoman_0 19 rfl rfl)
theorem dX4_isWoman_22 : decode cX4_isWoman 22 = .ok (.ireturn, 1) := dk_172 (dk_at dksX4_isWoman_0 22 rfl rfl)
abbrev cX4_woman : ByteArray := prog_12_method_71_code
def yX4_woman : MethodName := ⟨RX4, "woman", "(II)I"⟩
def dkwX4_woman_2 : List UInt8 := [27, 96, 46, 167, 0, 12, 42, 180, 0, 66, 16, 43, 27, 96, 46, 172]
abbrev dktX4_woman_2 : List UInt8 := dkwX4_woman_2 ++ []
def dkwX4_woman_1 : List UInt8 := [28, 154, 0, 12, 42, 180, 0, 22, 27, 46, 167, 0, 29, 28, 4, 160, 0, 15, 42, 180, 0, 66, 16, 37]
abbrev dktX4_woman_1 : List UInt8 := dkwX4_woman_1 ++ dktX4_woman_2
def dkwX4_woman_0 : List UInt8 := [42, 3, 181, 0, 117, 42, 27, 182, 1, 125, 153, 0, 12, 42, 28, 5, 182, 1, 122, 154, 0, 5, 3, 172]
abbrev dktX4_woman_0 : List UInt8 := dkwX4_woman_0 ++ dktX4_woman_1
theorem dksX4_woman_0 : cX4_woman.data.toList.drop 0 = dktX4_woman_0 := by decide +kernel
theorem dksX4_woman_1 : cX4_woman.data.toList.drop 24 = dktX4_woman_1 := dk_seg dksX4_woman_0 24 rfl rfl
theorem dksX4_woman_2 : cX4_woman.data.toList.drop 48 = dktX4_woman_2 := dk_seg dksX4_woman_1 24 rfl rfl
theorem dX4_woman_0 : decode cX4_woman 0 = .ok (.aload_n 0, 1) := dk_42 (dk_at dksX4_woman_0 0 rfl rfl)
theorem dX4_woman_1 : decode cX4_woman 1 = .ok (.iconst 0, 1) := dk_3 (dk_at dksX4_woman_0 1 rfl rfl)
theorem dX4_woman_2 : decode cX4_woman 2 = .ok (.putfield 117, 3) := dk_181 0 117 (dk_at dksX4_woman_0 2 rfl rfl)
theorem dX4_woman_5 : decode cX4_woman 5 = .ok (.aload_n 0, 1) := dk_42 (dk_at dksX4_woman_0 5 rfl rfl)
theorem dX4_woman_6 : decode cX4_woman 6 = .ok (.iload_n 1, 1) := dk_27 (dk_at dksX4_woman_0 6 rfl rfl)
theorem dX4_woman_7 : decode cX4_woman 7 = .ok (.invokevirtual 381, 3) := dk_182 1 125 (dk_at dksX4_woman_0 7 rfl rfl)
theorem dX4_woman_10 : decode cX4_woman 10 = .ok (.ifCond .eq 12, 3) := dk_153 0 12 (dk_at dksX4_woman_0 10 rfl rfl)
theorem dX4_woman_13 : decode cX4_woman 13 = .ok (.aload_n 0, 1) := dk_42 (dk_at dksX4_woman_0 13 rfl rfl)
theorem dX4_woman_14 : decode cX4_woman 14 = .ok (.iload_n 2, 1) := dk_28 (dk_at dksX4_woman_0 14 rfl rfl)
theorem dX4_woman_15 : decode cX4_woman 15 = .ok (.iconst 2, 1) := dk_5 (dk_at dksX4_woman_0 15 rfl rfl)
theorem dX4_woman_16 : decode cX4_woman 16 = .ok (.invokevirtual 378, 3) := dk_182 1 122 (dk_at dksX4_woman_0 16 rfl rfl)
theorem dX4_woman_19 : decode cX4_woman 19 = .ok (.ifCond .ne 5, 3) := dk_154 0 5 (dk_at dksX4_woman_0 19 rfl rfl)
theorem dX4_woman_22 : decode cX4_woman 22 = .ok (.iconst 0, 1) := dk_3 (dk_at dksX4_woman_0 22 rfl rfl)
theorem dX4_woman_23 : decode cX4_woman 23 = .ok (.ireturn, 1) := dk_172 (dk_at dksX4_woman_0 23 rfl rfl)
theorem dX4_woman_24 : decode cX4_woman 24 = .ok (.iload_n 2, 1) := dk_28 (dk_at dksX4_woman_1 0 rfl rfl)
theorem dX4_woman_25 : decode cX4_woman 25 = .ok (.ifCond .ne 12, 3) := dk_154 0 12 (dk_at dksX4_woman_1 1 rfl rfl)
theorem dX4_woman_28 : decode cX4_woman 28 = .ok (.aload_n 0, 1) := dk_42 (dk_at dksX4_woman_1 4 rfl rfl)
theorem dX4_woman_29 : decode cX4_woman 29 = .ok (.getfield 22, 3) := dk_180 0 22 (dk_at dksX4_woman_1 5 rfl rfl)
theorem dX4_woman_32 : decode cX4_woman 32 = .ok (.iload_n 1, 1) := dk_27 (dk_at dksX4_woman_1 8 rfl rfl)
theorem dX4_woman_33 : decode cX4_woman 33 = .ok (.iaload, 1) := dk_46 (dk_at dksX4_woman_1 9 rfl rfl)
theorem dX4_woman_34 : decode cX4_woman 34 = .ok (.goto 29, 3) := dk_167 0 29 (dk_at dksX4_woman_1 10 rfl rfl)
theorem dX4_woman_37 : decode cX4_woman 37 = .ok (.iload_n 2, 1) := dk_28 (dk_at dksX4_woman_1 13 rfl rfl)
theorem dX4_woman_38 : decode cX4_woman 38 = .ok (.iconst 1, 1) := dk_4 (dk_at dksX4_woman_1 14 rfl rfl)
theorem dX4_woman_39 : decode cX4_woman 39 = .ok (.if_icmp .ne 15, 3) := dk_160 0 15 (dk_at dksX4_woman_1 15 rfl rfl)
theorem dX4_woman_42 : decode cX4_woman 42 = .ok (.aload_n 0, 1) := dk_42 (dk_at dksX4_woman_1 18 rfl rfl)
theorem dX4_woman_43 : decode cX4_woman 43 = .ok (.getfield 66, 3) := dk_180 0 66 (dk_at dksX4_woman_1 19 rfl rfl)
theorem dX4_woman_46 : decode cX4_woman 46 = .ok (.bipush 37, 2) := dk_16 37 (dk_at dksX4_woman_1 22 rfl rfl)
theorem dX4_woman_48 : decode cX4_woman 48 = .ok (.iload_n 1, 1) := dk_27 (dk_at dksX4_woman_2 0 rfl rfl)
theorem dX4_woman_49 : decode cX4_woman 49 = .ok (.iadd, 1) := dk_96 (dk_at dksX4_woman_2 1 rfl rfl)
theorem dX4_woman_50 : decode cX4_woman 50 = .ok (.iaload, 1) := dk_46 (dk_at dksX4_woman_2 2 rfl rfl)
theorem dX4_woman_51 : decode cX4_woman 51 = .ok (.goto 12, 3) := dk_167 0 12 (dk_at dksX4_woman_2 3 rfl rfl)
theorem dX4_woman_54 : decode cX4_woman 54 = .ok (.aload_n 0, 1) := dk_42 (dk_at dksX4_woman_2 6 rfl rfl)
theorem dX4_woman_55 : decode cX4_woman 55 = .ok (.getfield 66, 3) := dk_180 0 66 (dk_at dksX4_woman_2 7 rfl rfl)
theorem dX4_woman_58 : decode cX4_woman 58 = .ok (.bipush 43, 2) := dk_16 43 (dk_at dksX4_woman_2 10 rfl rfl)
theorem dX4_woman_60 : decode cX4_woman 60 = .ok (.iload_n 1, 1) := dk_27 (dk_at dksX4_woman_2 12 rfl rfl)
theorem dX4_woman_61 : decode cX4_woman 61 = .ok (.iadd, 1) := dk_96 (dk_at dksX4_woman_2 13 rfl rfl)
theorem dX4_woman_62 : decode cX4_woman 62 = .ok (.iaload, 1) := dk_46 (dk_at dksX4_woman_2 14 rfl rfl)
theorem dX4_woman_63 : decode cX4_woman 63 = .ok (.ireturn, 1) := dk_172 (dk_at dksX4_woman_2 15 rfl rfl)
abbrev cX4_goesOn : ByteArray := prog_12_method_59_code
def yX4_goesOn : MethodName := ⟨RX4, "goesOn", "(II)V"⟩
def dkwX4_goesOn_1 : List UInt8 := [182, 1, 55, 79, 177]
abbrev dktX4_goesOn_1 : List UInt8 := dkwX4_goesOn_1 ++ []
def dkwX4_goesOn_0 : List UInt8 := [42, 180, 0, 66, 27, 16, 37, 96, 28, 96, 42, 42, 180, 0, 66, 27, 16, 37, 96, 28, 96, 46]
abbrev dktX4_goesOn_0 : List UInt8 := dkwX4_goesOn_0 ++ dktX4_goesOn_1
theorem dksX4_goesOn_0 : cX4_goesOn.data.toList.drop 0 = dktX4_goesOn_0 := by decide +kernel
theorem dksX4_goesOn_1 : cX4_goesOn.data.toList.drop 22 = dktX4_goesOn_1 := dk_seg dksX4_goesOn_0 22 rfl rfl
theorem dX4_goesOn_0 : decode cX4_goesOn 0 = .ok (.aload_n 0, 1) := dk_42 (dk_at dksX4_goesOn_0 0 rfl rfl)
theorem dX4_goesOn_1 : decode cX4_goesOn 1 = .ok (.getfield 66, 3) := dk_180 0 66 (dk_at dksX4_goesOn_0 1 rfl rfl)
theorem dX4_goesOn_4 : decode cX4_goesOn 4 = .ok (.iload_n 1, 1) := dk_27 (dk_at dksX4_goesOn_0 4 rfl rfl)
theorem dX4_goesOn_5 : decode cX4_goesOn 5 = .ok (.bipush 37, 2) := dk_16 37 (dk_at dksX4_goesOn_0 5 rfl rfl)
theorem dX4_goesOn_7 : decode cX4_goesOn 7 = .ok (.iadd, 1) := dk_96 (dk_at dksX4_goesOn_0 7 rfl rfl)
theorem dX4_goesOn_8 : decode cX4_goesOn 8 = .ok (.iload_n 2, 1) := dk_28 (dk_at dksX4_goesOn_0 8 rfl rfl)
theorem dX4_goesOn_9 : decode cX4_goesOn 9 = .ok (.iadd, 1) := dk_96 (dk_at dksX4_goesOn_0 9 rfl rfl)
theorem dX4_goesOn_10 : decode cX4_goesOn 10 = .ok (.aload_n 0, 1) := dk_42 (dk_at dksX4_goesOn_0 10 rfl rfl)
theorem dX4_goesOn_11 : decode cX4_goesOn 11 = .ok (.aload_n 0, 1) := dk_42 (dk_at dksX4_goesOn_0 11 rfl rfl)
theorem dX4_goesOn_12 : decode cX4_goesOn 12 = .ok (.getfield 66, 3) := dk_180 0 66 (dk_at dksX4_goesOn_0 12 rfl rfl)
theorem dX4_goesOn_15 : decode cX4_goesOn 15 = .ok (.iload_n 1, 1) := dk_27 (dk_at dksX4_goesOn_0 15 rfl rfl)
theorem dX4_goesOn_16 : decode cX4_goesOn 16 = .ok (.bipush 37, 2) := dk_16 37 (dk_at dksX4_goesOn_0 16 rfl rfl)
theorem dX4_goesOn_18 : decode cX4_goesOn 18 = .ok (.iadd, 1) := dk_96 (dk_at dksX4_goesOn_0 18 rfl rfl)
theorem dX4_goesOn_19 : decode cX4_goesOn 19 = .ok (.iload_n 2, 1) := dk_28 (dk_at dksX4_goesOn_0 19 rfl rfl)
theorem dX4_goesOn_20 : decode cX4_goesOn 20 = .ok (.iadd, 1) := dk_96 (dk_at dksX4_goesOn_0 20 rfl rfl)
theorem dX4_goesOn_21 : decode cX4_goesOn 21 = .ok (.iaload, 1) := dk_46 (dk_at dksX4_goesOn_0 21 rfl rfl)
theorem dX4_goesOn_22 : decode cX4_goesOn 22 = .ok (.invokevirtual 311, 3) := dk_182 1 55 (dk_at dksX4_goesOn_1 0 rfl rfl)
theorem dX4_goesOn_25 : decode cX4_goesOn 25 = .ok (.iastore, 1) := dk_79 (dk_at dksX4_goesOn_1 3 rfl rfl)
theorem dX4_goesOn_26 : decode cX4_goesOn 26 = .ok (.return_, 1) := dk_177 (dk_at dksX4_goesOn_1 4 rfl rfl)
abbrev cX4_lesser : ByteArray := prog_12_method_6_code
def yX4_lesser : MethodName := ⟨RX4, "lesser", "(II)I"⟩
def dkwX4_lesser_0 : List UInt8 := [26, 27, 162, 0, 7, 26, 167, 0, 4, 27, 172]
abbrev dktX4_lesser_0 : List UInt8 := dkwX4_lesser_0 ++ []
theorem dksX4_lesser_0 : cX4_lesser.data.toList.drop 0 = dktX4_lesser_0 := by decide +kernel
theorem dX4_lesser_0 : decode cX4_lesser 0 = .ok (.iload_n 0, 1) := dk_26 (dk_at dksX4_lesser_0 0 rfl rfl)
theorem dX4_lesser_1 : decode cX4_lesser 1 = .ok (.iload_n 1, 1) := dk_27 (dk_at dksX4_lesser_0 1 rfl rfl)
theorem dX4_lesser_2 : decode cX4_lesser 2 = .ok (.if_icmp .ge 7, 3) := dk_162 0 7 (dk_at dksX4_lesser_0 2 rfl rfl)
theorem dX4_lesser_5 : decode cX4_lesser 5 = .ok (.iload_n 0, 1) := dk_26 (dk_at dksX4_lesser_0 5 rfl rfl)
theorem dX4_lesser_6 : decode cX4_lesser 6 = .ok (.goto 4, 3) := dk_167 0 4 (dk_at dksX4_lesser_0 6 rfl rfl)
theorem dX4_lesser_9 : decode cX4_lesser 9 = .ok (.iload_n 1, 1) := dk_27 (dk_at dksX4_lesser_0 9 rfl rfl)
theorem dX4_lesser_10 : decode cX4_lesser 10 = .ok (.ireturn, 1) := dk_172 (dk_at dksX4_lesser_0 10 rfl rfl)
abbrev cX4_strains : ByteArray := prog_12_method_56_code
def yX4_strains : MethodName := ⟨RX4, "strains", "(III)V"⟩
def dkwX4_strains_1 : List UInt8 := [184, 1, 80, 79, 177]
abbrev dktX4_strains_1 : List UInt8 := dkwX4_strains_1 ++ []
def dkwX4_strains_0 : List UInt8 := [42, 180, 0, 66, 27, 4, 96, 28, 96, 16, 99, 42, 180, 0, 66, 27, 4, 96, 28, 96, 46, 29, 96]
abbrev dktX4_strains_0 : List UInt8 := dkwX4_strains_0 ++ dktX4_strains_1
theorem dksX4_strains_0 : cX4_strains.data.toList.drop 0 = dktX4_strains_0 := by decide +kernel
theorem dksX4_strains_1 : cX4_strains.data.toList.drop 23 = dktX4_strains_1 := dk_seg dksX4_strains_0 23 rfl rfl
theorem dX4_strains_0 : decode cX4_strains 0 = .ok (.aload_n 0, 1) := dk_42 (dk_at dksX4_strains_0 0 rfl rfl)
theorem dX4_strains_1 : decode cX4_strains 1 = .ok (.getfield 66, 3) := dk_180 0 66 (dk_at dksX4_strains_0 1 rfl rfl)
theorem dX4_strains_4 : decode cX4_strains 4 = .ok (.iload_n 1, 1) := dk_27 (dk_at dksX4_strains_0 4 rfl rfl)
theorem dX4_strains_5 : decode cX4_strains 5 = .ok (.iconst 1, 1) := dk_4 (dk_at dksX4_strains_0 5 rfl rfl)
theorem dX4_strains_6 : decode cX4_strains 6 = .ok (.iadd, 1) := dk_96 (dk_at dksX4_strains_0 6 rfl rfl)
theorem dX4_strains_7 : decode cX4_strains 7 = .ok (.iload_n 2, 1) := dk_28 (dk_at dksX4_strains_0 7 rfl rfl)
theorem dX4_strains_8 : decode cX4_strains 8 = .ok (.iadd, 1) := dk_96 (dk_at dksX4_strains_0 8 rfl rfl)
theorem dX4_strains_9 : decode cX4_strains 9 = .ok (.bipush 99, 2) := dk_16 99 (dk_at dksX4_strains_0 9 rfl rfl)
theorem dX4_strains_11 : decode cX4_strains 11 = .ok (.aload_n 0, 1) := dk_42 (dk_at dksX4_strains_0 11 rfl rfl)
theorem dX4_strains_12 : decode cX4_strains 12 = .ok (.getfield 66, 3) := dk_180 0 66 (dk_at dksX4_strains_0 12 rfl rfl)
theorem dX4_strains_15 : decode cX4_strains 15 = .ok (.iload_n 1, 1) := dk_27 (dk_at dksX4_strains_0 15 rfl rfl)
theorem dX4_strains_16 : decode cX4_strains 16 = .ok (.iconst 1, 1) := dk_4 (dk_at dksX4_strains_0 16 rfl rfl)
theorem dX4_strains_17 : decode cX4_strains 17 = .ok (.iadd, 1) := dk_96 (dk_at dksX4_strains_0 17 rfl rfl)
theorem dX4_strains_18 : decode cX4_strains 18 = .ok (.iload_n 2, 1) := dk_28 (dk_at dksX4_strains_0 18 rfl rfl)
theorem dX4_strains_19 : decode cX4_strains 19 = .ok (.iadd, 1) := dk_96 (dk_at dksX4_strains_0 19 rfl rfl)
theorem dX4_strains_20 : decode cX4_strains 20 = .ok (.iaload, 1) := dk_46 (dk_at dksX4_strains_0 20 rfl rfl)
theorem dX4_strains_21 : decode cX4_strains 21 = .ok (.iload_n 3, 1) := dk_29 (dk_at dksX4_strains_0 21 rfl rfl)
theorem dX4_strains_22 : decode cX4_strains 22 = .ok (.iadd, 1) := dk_96 (dk_at dksX4_strains_0 22 rfl rfl)
theorem dX4_strains_23 : decode cX4_strains 23 = .ok (.invokestatic 336, 3) := dk_184 1 80 (dk_at dksX4_strains_1 0 rfl rfl)
theorem dX4_strains_26 : decode cX4_strains 26 = .ok (.iastore, 1) := dk_79 (dk_at dksX4_strains_1 3 rfl rfl)
theorem dX4_strains_27 : decode cX4_strains 27 = .ok (.return_, 1) := dk_177 (dk_at dksX4_strains_1 4 rfl rfl)
abbrev cX4_loosens : ByteArray := prog_12_method_57_code
def yX4_loosens : MethodName := ⟨RX4, "loosens", "(III)V"⟩
def dkwX4_loosens_4 : List UInt8 := [28, 182, 1, 55, 21, 4, 182, 1, 83, 42, 180, 0, 66, 27, 4, 96, 28, 96, 3, 79, 177]
abbrev dktX4_loosens_4 : List UInt8 := dkwX4_loosens_4 ++ []
def dkwX4_loosens_3 : List UInt8 := [182, 1, 52, 21, 4, 182, 1, 83, 42, 27, 42, 28, 182, 1, 55, 182, 1, 70, 154, 0, 15, 42, 27, 42]
abbrev dktX4_loosens_3 : List UInt8 := dkwX4_loosens_3 ++ dktX4_loosens_4
def dkwX4_loosens_2 : List UInt8 := [96, 46, 5, 108, 54, 4, 42, 27, 42, 28, 182, 1, 52, 182, 1, 70, 154, 0, 15, 42, 27, 42, 28]
abbrev dktX4_loosens_2 : List UInt8 := dkwX4_loosens_2 ++ dktX4_loosens_3
def dkwX4_loosens_1 : List UInt8 := [16, 99, 184, 1, 77, 79, 42, 27, 28, 182, 1, 70, 154, 0, 4, 177, 42, 180, 0, 66, 27, 4, 96, 28]
abbrev dktX4_loosens_1 : List UInt8 := dkwX4_loosens_1 ++ dktX4_loosens_2
def dkwX4_loosens_0 : List UInt8 := [42, 180, 0, 66, 27, 16, 13, 96, 28, 96, 42, 180, 0, 66, 27, 16, 13, 96, 28, 96, 46, 29, 100, 3]
abbrev dktX4_loosens_0 : List UInt8 := dkwX4_loosens_0 ++ dktX4_loosens_1
theorem dksX4_loosens_0 : cX4_loosens.data.toList.drop 0 = dktX4_loosens_0 := by decide +kernel
theorem dksX4_loosens_1 : cX4_loosens.data.toList.drop 24 = dktX4_loosens_1 := dk_seg dksX4_loosens_0 24 rfl rfl
theorem dksX4_loosens_2 : cX4_loosens.data.toList.drop 48 = dktX4_loosens_2 := dk_seg dksX4_loosens_1 24 rfl rfl
theorem dksX4_loosens_3 : cX4_loosens.data.toList.drop 71 = dktX4_loosens_3 := dk_seg dksX4_loosens_2 23 rfl rfl
theorem dksX4_loosens_4 : cX4_loosens.data.toList.drop 95 = dktX4_loosens_4 := dk_seg dksX4_loosens_3 24 rfl rfl
theorem dX4_loosens_0 : decode cX4_loosens 0 = .ok (.aload_n 0, 1) := dk_42 (dk_at dksX4_loosens_0 0 rfl rfl)
theorem dX4_loosens_1 : decode cX4_loosens 1 = .ok (.getfield 66, 3) := dk_180 0 66 (dk_at dksX4_loosens_0 1 rfl rfl)
theorem dX4_loosens_4 : decode cX4_loosens 4 = .ok (.iload_n 1, 1) := dk_27 (dk_at dksX4_loosens_0 4 rfl rfl)
theorem dX4_loosens_5 : decode cX4_loosens 5 = .ok (.bipush 13, 2) := dk_16 13 (dk_at dksX4_loosens_0 5 rfl rfl)
theorem dX4_loosens_7 : decode cX4_loosens 7 = .ok (.iadd, 1) := dk_96 (dk_at dksX4_loosens_0 7 rfl rfl)
theorem dX4_loosens_8 : decode cX4_loosens 8 = .ok (.iload_n 2, 1) := dk_28 (dk_at dksX4_loosens_0 8 rfl rfl)
theorem dX4_loosens_9 : decode cX4_loosens 9 = .ok (.iadd, 1) := dk_96 (dk_at dksX4_loosens_0 9 rfl rfl)
theorem dX4_loosens_10 : decode cX4_loosens 10 = .ok (.aload_n 0, 1) := dk_42 (dk_at dksX4_loosens_0 10 rfl rfl)
theorem dX4_loosens_11 : decode cX4_loosens 11 = .ok (.getfield 66, 3) := dk_180 0 66 (dk_at dksX4_loosens_0 11 rfl rfl)
theorem dX4_loosens_14 : decode cX4_loosens 14 = .ok (.iload_n 1, 1) := dk_27 (dk_at dksX4_loosens_0 14 rfl rfl)
theorem dX4_loosens_15 : decode cX4_loosens 15 = .ok (.bipush 13, 2) := dk_16 13 (dk_at dksX4_loosens_0 15 rfl rfl)
theorem dX4_loosens_17 : decode cX4_loosens 17 = .ok (.iadd, 1) := dk_96 (dk_at dksX4_loosens_0 17 rfl rfl)
theorem dX4_loosens_18 : decode cX4_loosens 18 = .ok (.iload_n 2, 1) := dk_28 (dk_at dksX4_loosens_0 18 rfl rfl)
theorem dX4_loosens_19 : decode cX4_loosens 19 = .ok (.iadd, 1) := dk_96 (dk_at dksX4_loosens_0 19 rfl rfl)
theorem dX4_loosens_20 : decode cX4_loosens 20 = .ok (.iaload, 1) := dk_46 (dk_at dksX4_loosens_0 20 rfl rfl)
theorem dX4_loosens_21 : decode cX4_loosens 21 = .ok (.iload_n 3, 1) := dk_29 (dk_at dksX4_loosens_0 21 rfl rfl)
theorem dX4_loosens_22 : decode cX4_loosens 22 = .ok (.isub, 1) := dk_100 (dk_at dksX4_loosens_0 22 rfl rfl)
theorem dX4_loosens_23 : decode cX4_loosens 23 = .ok (.iconst 0, 1) := dk_3 (dk_at dksX4_loosens_0 23 rfl rfl)
theorem dX4_loosens_24 : decode cX4_loosens 24 = .ok (.bipush 99, 2) := dk_16 99 (dk_at dksX4_loosens_1 0 rfl rfl)
theorem dX4_loosens_26 : decode cX4_loosens 26 = .ok (.invokestatic 333, 3) := dk_184 1 77 (dk_at dksX4_loosens_1 2 rfl rfl)
theorem dX4_loosens_29 : decode cX4_loosens 29 = .ok (.iastore, 1) := dk_79 (dk_at dksX4_loosens_1 5 rfl rfl)
theorem dX4_loosens_30 : decode cX4_loosens 30 = .ok (.aload_n 0, 1) := dk_42 (dk_at dksX4_loosens_1 6 rfl rfl)
theorem dX4_loosens_31 : decode cX4_loosens 31 = .ok (.iload_n 1, 1) := dk_27 (dk_at dksX4_loosens_1 7 rfl rfl)
theorem dX4_loosens_32 : decode cX4_loosens 32 = .ok (.iload_n 2, 1) := dk_28 (dk_at dksX4_loosens_1 8 rfl rfl)
theorem dX4_loosens_33 : decode cX4_loosens 33 = .ok (.invokevirtual 326, 3) := dk_182 1 70 (dk_at dksX4_loosens_1 9 rfl rfl)
theorem dX4_loosens_36 : decode cX4_loosens 36 = .ok (.ifCond .ne 4, 3) := dk_154 0 4 (dk_at dksX4_loosens_1 12 rfl rfl)
theorem dX4_loosens_39 : decode cX4_loosens 39 = .ok (.return_, 1) := dk_177 (dk_at dksX4_loosens_1 15 rfl rfl)
theorem dX4_loosens_40 : decode cX4_loosens 40 = .ok (.aload_n 0, 1) := dk_42 (dk_at dksX4_loosens_1 16 rfl rfl)
theorem dX4_loosens_41 : decode cX4_loosens 41 = .ok (.getfield 66, 3) := dk_180 0 66 (dk_at dksX4_loosens_1 17 rfl rfl)
theorem dX4_loosens_44 : decode cX4_loosens 44 = .ok (.iload_n 1, 1) := dk_27 (dk_at dksX4_loosens_1 20 rfl rfl)
theorem dX4_loosens_45 : decode cX4_loosens 45 = .ok (.iconst 1, 1) := dk_4 (dk_at dksX4_loosens_1 21 rfl rfl)
theorem dX4_loosens_46 : decode cX4_loosens 46 = .ok (.iadd, 1) := dk_96 (dk_at dksX4_loosens_1 22 rfl rfl)
theorem dX4_loosens_47 : decode cX4_loosens 47 = .ok (.iload_n 2, 1) := dk_28 (dk_at dksX4_loosens_1 23 rfl rfl)
theorem dX4_loosens_48 : decode cX4_loosens 48 = .ok (.iadd, 1) := dk_96 (dk_at dksX4_loosens_2 0 rfl rfl)
theorem dX4_loosens_49 : decode cX4_loosens 49 = .ok (.iaload, 1) := dk_46 (dk_at dksX4_loosens_2 1 rfl rfl)
theorem dX4_loosens_50 : decode cX4_loosens 50 = .ok (.iconst 2, 1) := dk_5 (dk_at dksX4_loosens_2 2 rfl rfl)
theorem dX4_loosens_51 : decode cX4_loosens 51 = .ok (.idiv, 1) := dk_108 (dk_at dksX4_loosens_2 3 rfl rfl)
theorem dX4_loosens_52 : decode cX4_loosens 52 = .ok (.istore 4, 2) := dk_54 4 (dk_at dksX4_loosens_2 4 rfl rfl)
theorem dX4_loosens_54 : decode cX4_loosens 54 = .ok (.aload_n 0, 1) := dk_42 (dk_at dksX4_loosens_2 6 rfl rfl)
theorem dX4_loosens_55 : decode cX4_loosens 55 = .ok (.iload_n 1, 1) := dk_27 (dk_at dksX4_loosens_2 7 rfl rfl)
theorem dX4_loosens_56 : decode cX4_loosens 56 = .ok (.aload_n 0, 1) := dk_42 (dk_at dksX4_loosens_2 8 rfl rfl)
theorem dX4_loosens_57 : decode cX4_loosens 57 = .ok (.iload_n 2, 1) := dk_28 (dk_at dksX4_loosens_2 9 rfl rfl)
theorem dX4_loosens_58 : decode cX4_loosens 58 = .ok (.invokevirtual 308, 3) := dk_182 1 52 (dk_at dksX4_loosens_2 10 rfl rfl)
theorem dX4_loosens_61 : decode cX4_loosens 61 = .ok (.invokevirtual 326, 3) := dk_182 1 70 (dk_at dksX4_loosens_2 13 rfl rfl)
theorem dX4_loosens_64 : decode cX4_loosens 64 = .ok (.ifCond .ne 15, 3) := dk_154 0 15 (dk_at dksX4_loosens_2 16 rfl rfl)
theorem dX4_loosens_67 : decode cX4_loosens 67 = .ok (.aload_n 0, 1) := dk_42 (dk_at dksX4_loosens_2 19 rfl rfl)
theorem dX4_loosens_68 : decode cX4_loosens 68 = .ok (.iload_n 1, 1) := dk_27 (dk_at dksX4_loosens_2 20 rfl rfl)
theorem dX4_loosens_69 : decode cX4_loosens 69 = .ok (.aload_n 0, 1) := dk_42 (dk_at dksX4_loosens_2 21 rfl rfl)
theorem dX4_loosens_70 : decode cX4_loosens 70 = .ok (.iload_n 2, 1) := dk_28 (dk_at dksX4_loosens_2 22 rfl rfl)
theorem dX4_loosens_71 : decode cX4_loosens 71 = .ok (.invokevirtual 308, 3) := dk_182 1 52 (dk_at dksX4_loosens_3 0 rfl rfl)
theorem dX4_loosens_74 : decode cX4_loosens 74 = .ok (.iload 4, 2) := dk_21 4 (dk_at dksX4_loosens_3 3 rfl rfl)
theorem dX4_loosens_76 : decode cX4_loosens 76 = .ok (.invokevirtual 339, 3) := dk_182 1 83 (dk_at dksX4_loosens_3 5 rfl rfl)
theorem dX4_loosens_79 : decode cX4_loosens 79 = .ok (.aload_n 0, 1) := dk_42 (dk_at dksX4_loosens_3 8 rfl rfl)
theorem dX4_loosens_80 : decode cX4_loosens 80 = .ok (.iload_n 1, 1) := dk_27 (dk_at dksX4_loosens_3 9 rfl rfl)
theorem dX4_loosens_81 : decode cX4_loosens 81 = .ok (.aload_n 0, 1) := dk_42 (dk_at dksX4_loosens_3 10 rfl rfl)
theorem dX4_loosens_82 : decode cX4_loosens 82 = .ok (.iload_n 2, 1) := dk_28 (dk_at dksX4_loosens_3 11 rfl rfl)
theorem dX4_loosens_83 : decode cX4_loosens 83 = .ok (.invokevirtual 311, 3) := dk_182 1 55 (dk_at dksX4_loosens_3 12 rfl rfl)
theorem dX4_loosens_86 : decode cX4_loosens 86 = .ok (.invokevirtual 326, 3) := dk_182 1 70 (dk_at dksX4_loosens_3 15 rfl rfl)
theorem dX4_loosens_89 : decode cX4_loosens 89 = .ok (.ifCond .ne 15, 3) := dk_154 0 15 (dk_at dksX4_loosens_3 18 rfl rfl)
theorem dX4_loosens_92 : decode cX4_loosens 92 = .ok (.aload_n 0, 1) := dk_42 (dk_at dksX4_loosens_3 21 rfl rfl)
theorem dX4_loosens_93 : decode cX4_loosens 93 = .ok (.iload_n 1, 1) := dk_27 (dk_at dksX4_loosens_3 22 rfl rfl)
theorem dX4_loosens_94 : decode cX4_loosens 94 = .ok (.aload_n 0, 1) := dk_42 (dk_at dksX4_loosens_3 23 rfl rfl)
theorem dX4_loosens_95 : decode cX4_loosens 95 = .ok (.iload_n 2, 1) := dk_28 (dk_at dksX4_loosens_4 0 rfl rfl)
theorem dX4_loosens_96 : decode cX4_loosens 96 = .ok (.invokevirtual 311, 3) := dk_182 1 55 (dk_at dksX4_loosens_4 1 rfl rfl)
theorem dX4_loosens_99 : decode cX4_loosens 99 = .ok (.iload 4, 2) := dk_21 4 (dk_at dksX4_loosens_4 4 rfl rfl)
theorem dX4_loosens_101 : decode cX4_loosens 101 = .ok (.invokevirtual 339, 3) := dk_182 1 83 (dk_at dksX4_loosens_4 6 rfl rfl)
theorem dX4_loosens_104 : decode cX4_loosens 104 = .ok (.aload_n 0, 1) := dk_42 (dk_at dksX4_loosens_4 9 rfl rfl)
theorem dX4_loosens_105 : decode cX4_loosens 105 = .ok (.getfield 66, 3) := dk_180 0 66 (dk_at dksX4_loosens_4 10 rfl rfl)
theorem dX4_loosens_108 : decode cX4_loosens 108 = .ok (.iload_n 1, 1) := dk_27 (dk_at dksX4_loosens_4 13 rfl rfl)
theorem dX4_loosens_109 : decode cX4_loosens 109 = .ok (.iconst 1, 1) := dk_4 (dk_at dksX4_loosens_4 14 rfl rfl)
theorem dX4_loosens_110 : decode cX4_loosens 110 = .ok (.iadd, 1) := dk_96 (dk_at dksX4_loosens_4 15 rfl rfl)
theorem dX4_loosens_111 : decode cX4_loosens 111 = .ok (.iload_n 2, 1) := dk_28 (dk_at dksX4_loosens_4 16 rfl rfl)
theorem dX4_loosens_112 : decode cX4_loosens 112 = .ok (.iadd, 1) := dk_96 (dk_at dksX4_loosens_4 17 rfl rfl)
theorem dX4_loosens_113 : decode cX4_loosens 113 = .ok (.iconst 0, 1) := dk_3 (dk_at dksX4_loosens_4 18 rfl rfl)
theorem dX4_loosens_114 : decode cX4_loosens 114 = .ok (.iastore, 1) := dk_79 (dk_at dksX4_loosens_4 19 rfl rfl)
theorem dX4_loosens_115 : decode cX4_loosens 115 = .ok (.return_, 1) := dk_177 (dk_at dksX4_loosens_4 20 rfl rfl)
abbrev cX4_mends : ByteArray := prog_12_method_58_code
def yX4_mends : MethodName := ⟨RX4, "mends", "(II)V"⟩
def dkwX4_mends_3 : List UInt8 := [46, 104, 96, 6, 96, 184, 1, 80, 79, 177]
abbrev dktX4_mends_3 : List UInt8 := dkwX4_mends_3 ++ []
def dkwX4_mends_2 : List UInt8 := [16, 13, 96, 29, 96, 16, 99, 42, 180, 0, 66, 27, 16, 13, 96, 29, 96, 46, 5, 42, 180, 0, 22, 28]
abbrev dktX4_mends_2 : List UInt8 := dkwX4_mends_2 ++ dktX4_mends_3
def dkwX4_mends_1 : List UInt8 := [96, 46, 62, 42, 180, 0, 66, 27, 16, 43, 96, 28, 96, 92, 46, 4, 100, 79, 42, 180, 0, 66, 27]
abbrev dktX4_mends_1 : List UInt8 := dkwX4_mends_1 ++ dktX4_mends_2
def dkwX4_mends_0 : List UInt8 := [42, 180, 0, 66, 27, 16, 43, 96, 28, 96, 46, 154, 0, 4, 177, 42, 180, 0, 66, 27, 16, 37, 96, 28]
abbrev dktX4_mends_0 : List UInt8 := dkwX4_mends_0 ++ dktX4_mends_1
theorem dksX4_mends_0 : cX4_mends.data.toList.drop 0 = dktX4_mends_0 := by decide +kernel
theorem dksX4_mends_1 : cX4_mends.data.toList.drop 24 = dktX4_mends_1 := dk_seg dksX4_mends_0 24 rfl rfl
theorem dksX4_mends_2 : cX4_mends.data.toList.drop 47 = dktX4_mends_2 := dk_seg dksX4_mends_1 23 rfl rfl
theorem dksX4_mends_3 : cX4_mends.data.toList.drop 71 = dktX4_mends_3 := dk_seg dksX4_mends_2 24 rfl rfl
theorem dX4_mends_0 : decode cX4_mends 0 = .ok (.aload_n 0, 1) := dk_42 (dk_at dksX4_mends_0 0 rfl rfl)
theorem dX4_mends_1 : decode cX4_mends 1 = .ok (.getfield 66, 3) := dk_180 0 66 (dk_at dksX4_mends_0 1 rfl rfl)
theorem dX4_mends_4 : decode cX4_mends 4 = .ok (.iload_n 1, 1) := dk_27 (dk_at dksX4_mends_0 4 rfl rfl)
theorem dX4_mends_5 : decode cX4_mends 5 = .ok (.bipush 43, 2) := dk_16 43 (dk_at dksX4_mends_0 5 rfl rfl)
theorem dX4_mends_7 : decode cX4_mends 7 = .ok (.iadd, 1) := dk_96 (dk_at dksX4_mends_0 7 rfl rfl)
theorem dX4_mends_8 : decode cX4_mends 8 = .ok (.iload_n 2, 1) := dk_28 (dk_at dksX4_mends_0 8 rfl rfl)
theorem dX4_mends_9 : decode cX4_mends 9 = .ok (.iadd, 1) := dk_96 (dk_at dksX4_mends_0 9 rfl rfl)
theorem dX4_mends_10 : decode cX4_mends 10 = .ok (.iaload, 1) := dk_46 (dk_at dksX4_mends_0 10 rfl rfl)
theorem dX4_mends_11 : decode cX4_mends 11 = .ok (.ifCond .ne 4, 3) := dk_154 0 4 (dk_at dksX4_mends_0 11 rfl rfl)
theorem dX4_mends_14 : decode cX4_mends 14 = .ok (.return_, 1) := dk_177 (dk_at dksX4_mends_0 14 rfl rfl)
theorem dX4_mends_15 : decode cX4_mends 15 = .ok (.aload_n 0, 1) := dk_42 (dk_at dksX4_mends_0 15 rfl rfl)
theorem dX4_mends_16 : decode cX4_mends 16 = .ok (.getfield 66, 3) := dk_180 0 66 (dk_at dksX4_mends_0 16 rfl rfl)
theorem dX4_mends_19 : decode cX4_mends 19 = .ok (.iload_n 1, 1) := dk_27 (dk_at dksX4_mends_0 19 rfl rfl)
theorem dX4_mends_20 : decode cX4_mends 20 = .ok (.bipush 37, 2) := dk_16 37 (dk_at dksX4_mends_0 20 rfl rfl)
theorem dX4_mends_22 : decode cX4_mends 22 = .ok (.iadd, 1) := dk_96 (dk_at dksX4_mends_0 22 rfl rfl)
theorem dX4_mends_23 : decode cX4_mends 23 = .ok (.iload_n 2, 1) := dk_28 (dk_at dksX4_mends_0 23 rfl rfl)
theorem dX4_mends_24 : decode cX4_mends 24 = .ok (.iadd, 1) := dk_96 (dk_at dksX4_mends_1 0 rfl rfl)
theorem dX4_mends_25 : decode cX4_mends 25 = .ok (.iaload, 1) := dk_46 (dk_at dksX4_mends_1 1 rfl rfl)
theorem dX4_mends_26 : decode cX4_mends 26 = .ok (.istore_n 3, 1) := dk_62 (dk_at dksX4_mends_1 2 rfl rfl)
theorem dX4_mends_27 : decode cX4_mends 27 = .ok (.aload_n 0, 1) := dk_42 (dk_at dksX4_mends_1 3 rfl rfl)
theorem dX4_mends_28 : decode cX4_mends 28 = .ok (.getfield 66, 3) := dk_180 0 66 (dk_at dksX4_mends_1 4 rfl rfl)
theorem dX4_mends_31 : decode cX4_mends 31 = .ok (.iload_n 1, 1) := dk_27 (dk_at dksX4_mends_1 7 rfl rfl)
theorem dX4_mends_32 : decode cX4_mends 32 = .ok (.bipush 43, 2) := dk_16 43 (dk_at dksX4_mends_1 8 rfl rfl)
theorem dX4_mends_34 : decode cX4_mends 34 = .ok (.iadd, 1) := dk_96 (dk_at dksX4_mends_1 10 rfl rfl)
theorem dX4_mends_35 : decode cX4_mends 35 = .ok (.iload_n 2, 1) := dk_28 (dk_at dksX4_mends_1 11 rfl rfl)
theorem dX4_mends_36 : decode cX4_mends 36 = .ok (.iadd, 1) := dk_96 (dk_at dksX4_mends_1 12 rfl rfl)
theorem dX4_mends_37 : decode cX4_mends 37 = .ok (.dup2, 1) := dk_92 (dk_at dksX4_mends_1 13 rfl rfl)
theorem dX4_mends_38 : decode cX4_mends 38 = .ok (.iaload, 1) := dk_46 (dk_at dksX4_mends_1 14 rfl rfl)
theorem dX4_mends_39 : decode cX4_mends 39 = .ok (.iconst 1, 1) := dk_4 (dk_at dksX4_mends_1 15 rfl rfl)
theorem dX4_mends_40 : decode cX4_mends 40 = .ok (.isub, 1) := dk_100 (dk_at dksX4_mends_1 16 rfl rfl)
theorem dX4_mends_41 : decode cX4_mends 41 = .ok (.iastore, 1) := dk_79 (dk_at dksX4_mends_1 17 rfl rfl)
theorem dX4_mends_42 : decode cX4_mends 42 = .ok (.aload_n 0, 1) := dk_42 (dk_at dksX4_mends_1 18 rfl rfl)
theorem dX4_mends_43 : decode cX4_mends 43 = .ok (.getfield 66, 3) := dk_180 0 66 (dk_at dksX4_mends_1 19 rfl rfl)
theorem dX4_mends_46 : decode cX4_mends 46 = .ok (.iload_n 1, 1) := dk_27 (dk_at dksX4_mends_1 22 rfl rfl)
theorem dX4_mends_47 : decode cX4_mends 47 = .ok (.bipush 13, 2) := dk_16 13 (dk_at dksX4_mends_2 0 rfl rfl)
theorem dX4_mends_49 : decode cX4_mends 49 = .ok (.iadd, 1) := dk_96 (dk_at dksX4_mends_2 2 rfl rfl)
theorem dX4_mends_50 : decode cX4_mends 50 = .ok (.iload_n 3, 1) := dk_29 (dk_at dksX4_mends_2 3 rfl rfl)
theorem dX4_mends_51 : decode cX4_mends 51 = .ok (.iadd, 1) := dk_96 (dk_at dksX4_mends_2 4 rfl rfl)
theorem dX4_mends_52 : decode cX4_mends 52 = .ok (.bipush 99, 2) := dk_16 99 (dk_at dksX4_mends_2 5 rfl rfl)
theorem dX4_mends_54 : decode cX4_mends 54 = .ok (.aload_n 0, 1) := dk_42 (dk_at dksX4_mends_2 7 rfl rfl)
theorem dX4_mends_55 : decode cX4_mends 55 = .ok (.getfield 66, 3) := dk_180 0 66 (dk_at dksX4_mends_2 8 rfl rfl)
theorem dX4_mends_58 : decode cX4_mends 58 = .ok (.iload_n 1, 1) := dk_27 (dk_at dksX4_mends_2 11 rfl rfl)
theorem dX4_mends_59 : decode cX4_mends 59 = .ok (.bipush 13, 2) := dk_16 13 (dk_at dksX4_mends_2 12 rfl rfl)
theorem dX4_mends_61 : decode cX4_mends 61 = .ok (.iadd, 1) := dk_96 (dk_at dksX4_mends_2 14 rfl rfl)
theorem dX4_mends_62 : decode cX4_mends 62 = .ok (.iload_n 3, 1) := dk_29 (dk_at dksX4_mends_2 15 rfl rfl)
theorem dX4_mends_63 : decode cX4_mends 63 = .ok (.iadd, 1) := dk_96 (dk_at dksX4_mends_2 16 rfl rfl)
theorem dX4_mends_64 : decode cX4_mends 64 = .ok (.iaload, 1) := dk_46 (dk_at dksX4_mends_2 17 rfl rfl)
theorem dX4_mends_65 : decode cX4_mends 65 = .ok (.iconst 2, 1) := dk_5 (dk_at dksX4_mends_2 18 rfl rfl)
theorem dX4_mends_66 : decode cX4_mends 66 = .ok (.aload_n 0, 1) := dk_42 (dk_at dksX4_mends_2 19 rfl rfl)
theorem dX4_mends_67 : decode cX4_mends 67 = .ok (.getfield 22, 3) := dk_180 0 22 (dk_at dksX4_mends_2 20 rfl rfl)
theorem dX4_mends_70 : decode cX4_mends 70 = .ok (.iload_n 2, 1) := dk_28 (dk_at dksX4_mends_2 23 rfl rfl)
theorem dX4_mends_71 : decode cX4_mends 71 = .ok (.iaload, 1) := dk_46 (dk_at dksX4_mends_3 0 rfl rfl)
theorem dX4_mends_72 : decode cX4_mends 72 = .ok (.imul, 1) := dk_104 (dk_at dksX4_mends_3 1 rfl rfl)
theorem dX4_mends_73 : decode cX4_mends 73 = .ok (.iadd, 1) := dk_96 (dk_at dksX4_mends_3 2 rfl rfl)
theorem dX4_mends_74 : decode cX4_mends 74 = .ok (.iconst 3, 1) := dk_6 (dk_at dksX4_mends_3 3 rfl rfl)
theorem dX4_mends_75 : decode cX4_mends 75 = .ok (.iadd, 1) := dk_96 (dk_at dksX4_mends_3 4 rfl rfl)
theorem dX4_mends_76 : decode cX4_mends 76 = .ok (.invokestatic 336, 3) := dk_184 1 80 (dk_at dksX4_mends_3 5 rfl rfl)
theorem dX4_mends_79 : decode cX4_mends 79 = .ok (.iastore, 1) := dk_79 (dk_at dksX4_mends_3 8 rfl rfl)
theorem dX4_mends_80 : decode cX4_mends 80 = .ok (.return_, 1) := dk_177 (dk_at dksX4_mends_3 9 rfl rfl)
abbrev cX4_dayGoes : ByteArray := prog_12_method_60_code
def yX4_dayGoes : MethodName := ⟨RX4, "dayGoes", "(I)V"⟩
def dkwX4_dayGoes_8 : List UInt8 := [177]
abbrev dktX4_dayGoes_8 : List UInt8 := dkwX4_dayGoes_8 ++ []
def dkwX4_dayGoes_7 : List UInt8 := [42, 27, 28, 182, 1, 100, 132, 2, 1, 167, 255, 233, 42, 180, 0, 66, 27, 3, 96, 92, 46, 4, 96, 79]
abbrev dktX4_dayGoes_7 : List UInt8 := dkwX4_dayGoes_7 ++ dktX4_dayGoes_8
def dkwX4_dayGoes_6 : List UInt8 := [180, 0, 13, 4, 100, 160, 0, 31, 3, 61, 28, 42, 180, 1, 28, 162, 0, 21, 42, 27, 28, 182, 1, 96]
abbrev dktX4_dayGoes_6 : List UInt8 := dkwX4_dayGoes_6 ++ dktX4_dayGoes_7
def dkwX4_dayGoes_5 : List UInt8 := [182, 1, 93, 132, 2, 1, 167, 255, 224, 42, 180, 0, 66, 27, 3, 96, 46, 42, 180, 0, 13, 112, 42]
abbrev dktX4_dayGoes_5 : List UInt8 := dkwX4_dayGoes_5 ++ dktX4_dayGoes_6
def dkwX4_dayGoes_4 : List UInt8 := [180, 0, 7, 162, 0, 30, 42, 27, 28, 182, 1, 70, 154, 0, 15, 42, 27, 28, 42, 27, 28, 182, 1, 90]
abbrev dktX4_dayGoes_4 : List UInt8 := dkwX4_dayGoes_4 ++ dktX4_dayGoes_5
def dkwX4_dayGoes_3 : List UInt8 := [180, 0, 78, 28, 46, 96, 3, 16, 99, 184, 1, 77, 79, 132, 2, 1, 167, 255, 203, 3, 61, 28, 42]
abbrev dktX4_dayGoes_3 : List UInt8 := dkwX4_dayGoes_3 ++ dktX4_dayGoes_4
def dkwX4_dayGoes_2 : List UInt8 := [154, 0, 36, 42, 180, 0, 66, 27, 4, 96, 28, 96, 42, 180, 0, 66, 27, 4, 96, 28, 96, 46, 42]
abbrev dktX4_dayGoes_2 : List UInt8 := dkwX4_dayGoes_2 ++ dktX4_dayGoes_3
def dkwX4_dayGoes_1 : List UInt8 := [132, 2, 1, 167, 255, 233, 3, 61, 28, 42, 180, 0, 7, 162, 0, 51, 42, 27, 28, 182, 1, 70]
abbrev dktX4_dayGoes_1 : List UInt8 := dkwX4_dayGoes_1 ++ dktX4_dayGoes_2
def dkwX4_dayGoes_0 : List UInt8 := [3, 61, 28, 42, 180, 0, 7, 162, 0, 21, 42, 180, 0, 78, 28, 42, 27, 28, 182, 1, 87, 79]
abbrev dktX4_dayGoes_0 : List UInt8 := dkwX4_dayGoes_0 ++ dktX4_dayGoes_1
theorem dksX4_dayGoes_0 : cX4_dayGoes.data.toList.drop 0 = dktX4_dayGoes_0 := by decide +kernel
theorem dksX4_dayGoes_1 : cX4_dayGoes.data.toList.drop 22 = dktX4_dayGoes_1 := dk_seg dksX4_dayGoes_0 22 rfl rfl
theorem dksX4_dayGoes_2 : cX4_dayGoes.data.toList.drop 44 = dktX4_dayGoes_2 := dk_seg dksX4_dayGoes_1 22 rfl rfl
theorem dksX4_dayGoes_3 : cX4_dayGoes.data.toList.drop 67 = dktX4_dayGoes_3 := dk_seg dksX4_dayGoes_2 23 rfl rfl
theorem dksX4_dayGoes_4 : cX4_dayGoes.data.toList.drop 90 = dktX4_dayGoes_4 := dk_seg dksX4_dayGoes_3 23 rfl rfl
theorem dksX4_dayGoes_5 : cX4_dayGoes.data.toList.drop 114 = dktX4_dayGoes_5 := dk_seg dksX4_dayGoes_4 24 rfl rfl
theorem dksX4_dayGoes_6 : cX4_dayGoes.data.toList.drop 137 = dktX4_dayGoes_6 := dk_seg dksX4_dayGoes_5 23 rfl rfl
theorem dksX4_dayGoes_7 : cX4_dayGoes.data.toList.drop 161 = dktX4_dayGoes_7 := dk_seg dksX4_dayGoes_6 24 rfl rfl
theorem dksX4_dayGoes_8 : cX4_dayGoes.data.toList.drop 185 = dktX4_dayGoes_8 := dk_seg dksX4_dayGoes_7 24 rfl rfl
theorem dX4_dayGoes_0 : decode cX4_dayGoes 0 = .ok (.iconst 0, 1) := dk_3 (dk_at dksX4_dayGoes_0 0 rfl rfl)
theorem dX4_dayGoes_1 : decode cX4_dayGoes 1 = .ok (.istore_n 2, 1) := dk_61 (dk_at dksX4_dayGoes_0 1 rfl rfl)
theorem dX4_dayGoes_2 : decode cX4_dayGoes 2 = .ok (.iload_n 2, 1) := dk_28 (dk_at dksX4_dayGoes_0 2 rfl rfl)
theorem dX4_dayGoes_3 : decode cX4_dayGoes 3 = .ok (.aload_n 0, 1) := dk_42 (dk_at dksX4_dayGoes_0 3 rfl rfl)
theorem dX4_dayGoes_4 : decode cX4_dayGoes 4 = .ok (.getfield 7, 3) := dk_180 0 7 (dk_at dksX4_dayGoes_0 4 rfl rfl)
theorem dX4_dayGoes_7 : decode cX4_dayGoes 7 = .ok (.if_icmp .ge 21, 3) := dk_162 0 21 (dk_at dksX4_dayGoes_0 7 rfl rfl)
theorem dX4_dayGoes_10 : decode cX4_dayGoes 10 = .ok (.aload_n 0, 1) := dk_42 (dk_at dksX4_dayGoes_0 10 rfl rfl)
theorem dX4_dayGoes_11 : decode cX4_dayGoes 11 = .ok (.getfield 78, 3) := dk_180 0 78 (dk_at dksX4_dayGoes_0 11 rfl rfl)
theorem dX4_dayGoes_14 : decode cX4_dayGoes 14 = .ok (.iload_n 2, 1) := dk_28 (dk_at dksX4_dayGoes_0 14 rfl rfl)
theorem dX4_dayGoes_15 : decode cX4_dayGoes 15 = .ok (.aload_n 0, 1) := dk_42 (dk_at dksX4_dayGoes_0 15 rfl rfl)
theorem dX4_dayGoes_16 : decode cX4_dayGoes 16 = .ok (.iload_n 1, 1) := dk_27 (dk_at dksX4_dayGoes_0 16 rfl rfl)
theorem dX4_dayGoes_17 : decode cX4_dayGoes 17 = .ok (.iload_n 2, 1) := dk_28 (dk_at dksX4_dayGoes_0 17 rfl rfl)
theorem dX4_dayGoes_18 : decode cX4_dayGoes 18 = .ok (.invokevirtual 343, 3) := dk_182 1 87 (dk_at dksX4_dayGoes_0 18 rfl rfl)
theorem dX4_dayGoes_21 : decode cX4_dayGoes 21 = .ok (.iastore, 1) := dk_79 (dk_at dksX4_dayGoes_0 21 rfl rfl)
theorem dX4_dayGoes_22 : decode cX4_dayGoes 22 = .ok (.iinc 2 1, 3) := dk_132 2 1 (dk_at dksX4_dayGoes_1 0 rfl rfl)
theorem dX4_dayGoes_25 : decode cX4_dayGoes 25 = .ok (.goto (-23), 3) := dk_167 255 233 (dk_at dksX4_dayGoes_1 3 rfl rfl)
theorem dX4_dayGoes_28 : decode cX4_dayGoes 28 = .ok (.iconst 0, 1) := dk_3 (dk_at dksX4_dayGoes_1 6 rfl rfl)
theorem dX4_dayGoes_29 : decode cX4_dayGoes 29 = .ok (.istore_n 2, 1) := dk_61 (dk_at dksX4_dayGoes_1 7 rfl rfl)
theorem dX4_dayGoes_30 : decode cX4_dayGoes 30 = .ok (.iload_n 2, 1) := dk_28 (dk_at dksX4_dayGoes_1 8 rfl rfl)
theorem dX4_dayGoes_31 : decode cX4_dayGoes 31 = .ok (.aload_n 0, 1) := dk_42 (dk_at dksX4_dayGoes_1 9 rfl rfl)
theorem dX4_dayGoes_32 : decode cX4_dayGoes 32 = .ok (.getfield 7, 3) := dk_180 0 7 (dk_at dksX4_dayGoes_1 10 rfl rfl)
theorem dX4_dayGoes_35 : decode cX4_dayGoes 35 = .ok (.if_icmp .ge 51, 3) := dk_162 0 51 (dk_at dksX4_dayGoes_1 13 rfl rfl)
theorem dX4_dayGoes_38 : decode cX4_dayGoes 38 = .ok (.aload_n 0, 1) := dk_42 (dk_at dksX4_dayGoes_1 16 rfl rfl)
theorem dX4_dayGoes_39 : decode cX4_dayGoes 39 = .ok (.iload_n 1, 1) := dk_27 (dk_at dksX4_dayGoes_1 17 rfl rfl)
theorem dX4_dayGoes_40 : decode cX4_dayGoes 40 = .ok (.iload_n 2, 1) := dk_28 (dk_at dksX4_dayGoes_1 18 rfl rfl)
theorem dX4_dayGoes_41 : decode cX4_dayGoes 41 = .ok (.invokevirtual 326, 3) := dk_182 1 70 (dk_at dksX4_dayGoes_1 19 rfl rfl)
theorem dX4_dayGoes_44 : decode cX4_dayGoes 44 = .ok (.ifCond .ne 36, 3) := dk_154 0 36 (dk_at dksX4_dayGoes_2 0 rfl rfl)
theorem dX4_dayGoes_47 : decode cX4_dayGoes 47 = .ok (.aload_n 0, 1) := dk_42 (dk_at dksX4_dayGoes_2 3 rfl rfl)
theorem dX4_dayGoes_48 : decode cX4_dayGoes 48 = .ok (.getfield 66, 3) := dk_180 0 66 (dk_at dksX4_dayGoes_2 4 rfl rfl)
theorem dX4_dayGoes_51 : decode cX4_dayGoes 51 = .ok (.iload_n 1, 1) := dk_27 (dk_at dksX4_dayGoes_2 7 rfl rfl)
theorem dX4_dayGoes_52 : decode cX4_dayGoes 52 = .ok (.iconst 1, 1) := dk_4 (dk_at dksX4_dayGoes_2 8 rfl rfl)
theorem dX4_dayGoes_53 : decode cX4_dayGoes 53 = .ok (.iadd, 1) := dk_96 (dk_at dksX4_dayGoes_2 9 rfl rfl)
theorem dX4_dayGoes_54 : decode cX4_dayGoes 54 = .ok (.iload_n 2, 1) := dk_28 (dk_at dksX4_dayGoes_2 10 rfl rfl)
theorem dX4_dayGoes_55 : decode cX4_dayGoes 55 = .ok (.iadd, 1) := dk_96 (dk_at dksX4_dayGoes_2 11 rfl rfl)
theorem dX4_dayGoes_56 : decode cX4_dayGoes 56 = .ok (.aload_n 0, 1) := dk_42 (dk_at dksX4_dayGoes_2 12 rfl rfl)
theorem dX4_dayGoes_57 : decode cX4_dayGoes 57 = .ok (.getfield 66, 3) := dk_180 0 66 (dk_at dksX4_dayGoes_2 13 rfl rfl)
theorem dX4_dayGoes_60 : decode cX4_dayGoes 60 = .ok (.iload_n 1, 1) := dk_27 (dk_at dksX4_dayGoes_2 16 rfl rfl)
theorem dX4_dayGoes_61 : decode cX4_dayGoes 61 = .ok (.iconst 1, 1) := dk_4 (dk_at dksX4_dayGoes_2 17 rfl rfl)
theorem dX4_dayGoes_62 : decode cX4_dayGoes 62 = .ok (.iadd, 1) := dk_96 (dk_at dksX4_dayGoes_2 18 rfl rfl)
theorem dX4_dayGoes_63 : decode cX4_dayGoes 63 = .ok (.iload_n 2, 1) := dk_28 (dk_at dksX4_dayGoes_2 19 rfl rfl)
theorem dX4_dayGoes_64 : decode cX4_dayGoes 64 = .ok (.iadd, 1) := dk_96 (dk_at dksX4_dayGoes_2 20 rfl rfl)
theorem dX4_dayGoes_65 : decode cX4_dayGoes 65 = .ok (.iaload, 1) := dk_46 (dk_at dksX4_dayGoes_2 21 rfl rfl)
theorem dX4_dayGoes_66 : decode cX4_dayGoes 66 = .ok (.aload_n 0, 1) := dk_42 (dk_at dksX4_dayGoes_2 22 rfl rfl)
theorem dX4_dayGoes_67 : decode cX4_dayGoes 67 = .ok (.getfield 78, 3) := dk_180 0 78 (dk_at dksX4_dayGoes_3 0 rfl rfl)
theorem dX4_dayGoes_70 : decode cX4_dayGoes 70 = .ok (.iload_n 2, 1) := dk_28 (dk_at dksX4_dayGoes_3 3 rfl rfl)
theorem dX4_dayGoes_71 : decode cX4_dayGoes 71 = .ok (.iaload, 1) := dk_46 (dk_at dksX4_dayGoes_3 4 rfl rfl)
theorem dX4_dayGoes_72 : decode cX4_dayGoes 72 = .ok (.iadd, 1) := dk_96 (dk_at dksX4_dayGoes_3 5 rfl rfl)
theorem dX4_dayGoes_73 : decode cX4_dayGoes 73 = .ok (.iconst 0, 1) := dk_3 (dk_at dksX4_dayGoes_3 6 rfl rfl)
theorem dX4_dayGoes_74 : decode cX4_dayGoes 74 = .ok (.bipush 99, 2) := dk_16 99 (dk_at dksX4_dayGoes_3 7 rfl rfl)
theorem dX4_dayGoes_76 : decode cX4_dayGoes 76 = .ok (.invokestatic 333, 3) := dk_184 1 77 (dk_at dksX4_dayGoes_3 9 rfl rfl)
theorem dX4_dayGoes_79 : decode cX4_dayGoes 79 = .ok (.iastore, 1) := dk_79 (dk_at dksX4_dayGoes_3 12 rfl rfl)
theorem dX4_dayGoes_80 : decode cX4_dayGoes 80 = .ok (.iinc 2 1, 3) := dk_132 2 1 (dk_at dksX4_dayGoes_3 13 rfl rfl)
theorem dX4_dayGoes_83 : decode cX4_dayGoes 83 = .ok (.goto (-53), 3) := dk_167 255 203 (dk_at dksX4_dayGoes_3 16 rfl rfl)
theorem dX4_dayGoes_86 : decode cX4_dayGoes 86 = .ok (.iconst 0, 1) := dk_3 (dk_at dksX4_dayGoes_3 19 rfl rfl)
theorem dX4_dayGoes_87 : decode cX4_dayGoes 87 = .ok (.istore_n 2, 1) := dk_61 (dk_at dksX4_dayGoes_3 20 rfl rfl)
theorem dX4_dayGoes_88 : decode cX4_dayGoes 88 = .ok (.iload_n 2, 1) := dk_28 (dk_at dksX4_dayGoes_3 21 rfl rfl)
theorem dX4_dayGoes_89 : decode cX4_dayGoes 89 = .ok (.aload_n 0, 1) := dk_42 (dk_at dksX4_dayGoes_3 22 rfl rfl)
theorem dX4_dayGoes_90 : decode cX4_dayGoes 90 = .ok (.getfield 7, 3) := dk_180 0 7 (dk_at dksX4_dayGoes_4 0 rfl rfl)
theorem dX4_dayGoes_93 : decode cX4_dayGoes 93 = .ok (.if_icmp .ge 30, 3) := dk_162 0 30 (dk_at dksX4_dayGoes_4 3 rfl rfl)
theorem dX4_dayGoes_96 : decode cX4_dayGoes 96 = .ok (.aload_n 0, 1) := dk_42 (dk_at dksX4_dayGoes_4 6 rfl rfl)
theorem dX4_dayGoes_97 : decode cX4_dayGoes 97 = .ok (.iload_n 1, 1) := dk_27 (dk_at dksX4_dayGoes_4 7 rfl rfl)
theorem dX4_dayGoes_98 : decode cX4_dayGoes 98 = .ok (.iload_n 2, 1) := dk_28 (dk_at dksX4_dayGoes_4 8 rfl rfl)
theorem dX4_dayGoes_99 : decode cX4_dayGoes 99 = .ok (.invokevirtual 326, 3) := dk_182 1 70 (dk_at dksX4_dayGoes_4 9 rfl rfl)
theorem dX4_dayGoes_102 : decode cX4_dayGoes 102 = .ok (.ifCond .ne 15, 3) := dk_154 0 15 (dk_at dksX4_dayGoes_4 12 rfl rfl)
theorem dX4_dayGoes_105 : decode cX4_dayGoes 105 = .ok (.aload_n 0, 1) := dk_42 (dk_at dksX4_dayGoes_4 15 rfl rfl)
theorem dX4_dayGoes_106 : decode cX4_dayGoes 106 = .ok (.iload_n 1, 1) := dk_27 (dk_at dksX4_dayGoes_4 16 rfl rfl)
theorem dX4_dayGoes_107 : decode cX4_dayGoes 107 = .ok (.iload_n 2, 1) := dk_28 (dk_at dksX4_dayGoes_4 17 rfl rfl)
theorem dX4_dayGoes_108 : decode cX4_dayGoes 108 = .ok (.aload_n 0, 1) := dk_42 (dk_at dksX4_dayGoes_4 18 rfl rfl)
theorem dX4_dayGoes_109 : decode cX4_dayGoes 109 = .ok (.iload_n 1, 1) := dk_27 (dk_at dksX4_dayGoes_4 19 rfl rfl)
theorem dX4_dayGoes_110 : decode cX4_dayGoes 110 = .ok (.iload_n 2, 1) := dk_28 (dk_at dksX4_dayGoes_4 20 rfl rfl)
theorem dX4_dayGoes_111 : decode cX4_dayGoes 111 = .ok (.invokevirtual 346, 3) := dk_182 1 90 (dk_at dksX4_dayGoes_4 21 rfl rfl)
theorem dX4_dayGoes_114 : decode cX4_dayGoes 114 = .ok (.invokevirtual 349, 3) := dk_182 1 93 (dk_at dksX4_dayGoes_5 0 rfl rfl)
theorem dX4_dayGoes_117 : decode cX4_dayGoes 117 = .ok (.iinc 2 1, 3) := dk_132 2 1 (dk_at dksX4_dayGoes_5 3 rfl rfl)
theorem dX4_dayGoes_120 : decode cX4_dayGoes 120 = .ok (.goto (-32), 3) := dk_167 255 224 (dk_at dksX4_dayGoes_5 6 rfl rfl)
theorem dX4_dayGoes_123 : decode cX4_dayGoes 123 = .ok (.aload_n 0, 1) := dk_42 (dk_at dksX4_dayGoes_5 9 rfl rfl)
theorem dX4_dayGoes_124 : decode cX4_dayGoes 124 = .ok (.getfield 66, 3) := dk_180 0 66 (dk_at dksX4_dayGoes_5 10 rfl rfl)
theorem dX4_dayGoes_127 : decode cX4_dayGoes 127 = .ok (.iload_n 1, 1) := dk_27 (dk_at dksX4_dayGoes_5 13 rfl rfl)
theorem dX4_dayGoes_128 : decode cX4_dayGoes 128 = .ok (.iconst 0, 1) := dk_3 (dk_at dksX4_dayGoes_5 14 rfl rfl)
theorem dX4_dayGoes_129 : decode cX4_dayGoes 129 = .ok (.iadd, 1) := dk_96 (dk_at dksX4_dayGoes_5 15 rfl rfl)
theorem dX4_dayGoes_130 : decode cX4_dayGoes 130 = .ok (.iaload, 1) := dk_46 (dk_at dksX4_dayGoes_5 16 rfl rfl)
theorem dX4_dayGoes_131 : decode cX4_dayGoes 131 = .ok (.aload_n 0, 1) := dk_42 (dk_at dksX4_dayGoes_5 17 rfl rfl)
theorem dX4_dayGoes_132 : decode cX4_dayGoes 132 = .ok (.getfield 13, 3) := dk_180 0 13 (dk_at dksX4_dayGoes_5 18 rfl rfl)
theorem dX4_dayGoes_135 : decode cX4_dayGoes 135 = .ok (.irem, 1) := dk_112 (dk_at dksX4_dayGoes_5 21 rfl rfl)
theorem dX4_dayGoes_136 : decode cX4_dayGoes 136 = .ok (.aload_n 0, 1) := dk_42 (dk_at dksX4_dayGoes_5 22 rfl rfl)
theorem dX4_dayGoes_137 : decode cX4_dayGoes 137 = .ok (.getfield 13, 3) := dk_180 0 13 (dk_at dksX4_dayGoes_6 0 rfl rfl)
theorem dX4_dayGoes_140 : decode cX4_dayGoes 140 = .ok (.iconst 1, 1) := dk_4 (dk_at dksX4_dayGoes_6 3 rfl rfl)
theorem dX4_dayGoes_141 : decode cX4_dayGoes 141 = .ok (.isub, 1) := dk_100 (dk_at dksX4_dayGoes_6 4 rfl rfl)
theorem dX4_dayGoes_142 : decode cX4_dayGoes 142 = .ok (.if_icmp .ne 31, 3) := dk_160 0 31 (dk_at dksX4_dayGoes_6 5 rfl rfl)
theorem dX4_dayGoes_145 : decode cX4_dayGoes 145 = .ok (.iconst 0, 1) := dk_3 (dk_at dksX4_dayGoes_6 8 rfl rfl)
theorem dX4_dayGoes_146 : decode cX4_dayGoes 146 = .ok (.istore_n 2, 1) := dk_61 (dk_at dksX4_dayGoes_6 9 rfl rfl)
theorem dX4_dayGoes_147 : decode cX4_dayGoes 147 = .ok (.iload_n 2, 1) := dk_28 (dk_at dksX4_dayGoes_6 10 rfl rfl)
theorem dX4_dayGoes_148 : decode cX4_dayGoes 148 = .ok (.aload_n 0, 1) := dk_42 (dk_at dksX4_dayGoes_6 11 rfl rfl)
theorem dX4_dayGoes_149 : decode cX4_dayGoes 149 = .ok (.getfield 284, 3) := dk_180 1 28 (dk_at dksX4_dayGoes_6 12 rfl rfl)
theorem dX4_dayGoes_152 : decode cX4_dayGoes 152 = .ok (.if_icmp .ge 21, 3) := dk_162 0 21 (dk_at dksX4_dayGoes_6 15 rfl rfl)
theorem dX4_dayGoes_155 : decode cX4_dayGoes 155 = .ok (.aload_n 0, 1) := dk_42 (dk_at dksX4_dayGoes_6 18 rfl rfl)
theorem dX4_dayGoes_156 : decode cX4_dayGoes 156 = .ok (.iload_n 1, 1) := dk_27 (dk_at dksX4_dayGoes_6 19 rfl rfl)
theorem dX4_dayGoes_157 : decode cX4_dayGoes 157 = .ok (.iload_n 2, 1) := dk_28 (dk_at dksX4_dayGoes_6 20 rfl rfl)
theorem dX4_dayGoes_158 : decode cX4_dayGoes 158 = .ok (.invokevirtual 352, 3) := dk_182 1 96 (dk_at dksX4_dayGoes_6 21 rfl rfl)
theorem dX4_dayGoes_161 : decode cX4_dayGoes 161 = .ok (.aload_n 0, 1) := dk_42 (dk_at dksX4_dayGoes_7 0 rfl rfl)
theorem dX4_dayGoes_162 : decode cX4_dayGoes 162 = .ok (.iload_n 1, 1) := dk_27 (dk_at dksX4_dayGoes_7 1 rfl rfl)
theorem dX4_dayGoes_163 : decode cX4_dayGoes 163 = .ok (.iload_n 2, 1) := dk_28 (dk_at dksX4_dayGoes_7 2 rfl rfl)
theorem dX4_dayGoes_164 : decode cX4_dayGoes 164 = .ok (.invokevirtual 356, 3) := dk_182 1 100 (dk_at dksX4_dayGoes_7 3 rfl rfl)
theorem dX4_dayGoes_167 : decode cX4_dayGoes 167 = .ok (.iinc 2 1, 3) := dk_132 2 1 (dk_at dksX4_dayGoes_7 6 rfl rfl)
theorem dX4_dayGoes_170 : decode cX4_dayGoes 170 = .ok (.goto (-23), 3) := dk_167 255 233 (dk_at dksX4_dayGoes_7 9 rfl rfl)
theorem dX4_dayGoes_173 : decode cX4_dayGoes 173 = .ok (.aload_n 0, 1) := dk_42 (dk_at dksX4_dayGoes_7 12 rfl rfl)
theorem dX4_dayGoes_174 : decode cX4_dayGoes 174 = .ok (.getfield 66, 3) := dk_180 0 66 (dk_at dksX4_dayGoes_7 13 rfl rfl)
theorem dX4_dayGoes_177 : decode cX4_dayGoes 177 = .ok (.iload_n 1, 1) := dk_27 (dk_at dksX4_dayGoes_7 16 rfl rfl)
theorem dX4_dayGoes_178 : decode cX4_dayGoes 178 = .ok (.iconst 0, 1) := dk_3 (dk_at dksX4_dayGoes_7 17 rfl rfl)
theorem dX4_dayGoes_179 : decode cX4_dayGoes 179 = .ok (.iadd, 1) := dk_96 (dk_at dksX4_dayGoes_7 18 rfl rfl)
theorem dX4_dayGoes_180 : decode cX4_dayGoes 180 = .ok (.dup2, 1) := dk_92 (dk_at dksX4_dayGoes_7 19 rfl rfl)
theorem dX4_dayGoes_181 : decode cX4_dayGoes 181 = .ok (.iaload, 1) := dk_46 (dk_at dksX4_dayGoes_7 20 rfl rfl)
theorem dX4_dayGoes_182 : decode cX4_dayGoes 182 = .ok (.iconst 1, 1) := dk_4 (dk_at dksX4_dayGoes_7 21 rfl rfl)
theorem dX4_dayGoes_183 : decode cX4_dayGoes 183 = .ok (.iadd, 1) := dk_96 (dk_at dksX4_dayGoes_7 22 rfl rfl)
theorem dX4_dayGoes_184 : decode cX4_dayGoes 184 = .ok (.iastore, 1) := dk_79 (dk_at dksX4_dayGoes_7 23 rfl rfl)
theorem dX4_dayGoes_185 : decode cX4_dayGoes 185 = .ok (.return_, 1) := dk_177 (dk_at dksX4_dayGoes_8 0 rfl rfl)
abbrev cX4_keeps : ByteArray := prog_12_method_42_code
def yX4_keeps : MethodName := ⟨RX4, "keeps", "()V"⟩
def dkwX4_keeps_3 : List UInt8 := [42, 180, 0, 66, 27, 46, 79, 132, 1, 1, 167, 255, 227, 42, 89, 180, 1, 38, 4, 96, 181, 1, 38, 177]
abbrev dktX4_keeps_3 : List UInt8 := dkwX4_keeps_3 ++ []
def dkwX4_keeps_2 : List UInt8 := [181, 1, 38, 3, 60, 27, 16, 49, 162, 0, 29, 42, 180, 0, 69, 16, 49, 42, 180, 1, 38, 104, 27, 96]
abbrev dktX4_keeps_2 : List UInt8 := dkwX4_keeps_2 ++ dktX4_keeps_3
def dkwX4_keeps_1 : List UInt8 := [16, 49, 100, 42, 180, 0, 69, 27, 46, 79, 132, 1, 1, 167, 255, 231, 42, 89, 180, 1, 38, 4, 100]
abbrev dktX4_keeps_1 : List UInt8 := dkwX4_keeps_1 ++ dktX4_keeps_2
def dkwX4_keeps_0 : List UInt8 := [42, 180, 1, 38, 16, 40, 160, 0, 44, 16, 49, 60, 27, 17, 7, 168, 162, 0, 24, 42, 180, 0, 69, 27]
abbrev dktX4_keeps_0 : List UInt8 := dkwX4_keeps_0 ++ dktX4_keeps_1
theorem dksX4_keeps_0 : cX4_keeps.data.toList.drop 0 = dktX4_keeps_0 := by decide +kernel
theorem dksX4_keeps_1 : cX4_keeps.data.toList.drop 24 = dktX4_keeps_1 := dk_seg dksX4_keeps_0 24 rfl rfl
theorem dksX4_keeps_2 : cX4_keeps.data.toList.drop 47 = dktX4_keeps_2 := dk_seg dksX4_keeps_1 23 rfl rfl
theorem dksX4_keeps_3 : cX4_keeps.data.toList.drop 71 = dktX4_keeps_3 := dk_seg dksX4_keeps_2 24 rfl rfl
theorem dX4_keeps_0 : decode cX4_keeps 0 = .ok (.aload_n 0, 1) := dk_42 (dk_at dksX4_keeps_0 0 rfl rfl)
theorem dX4_keeps_1 : decode cX4_keeps 1 = .ok (.getfield 294, 3) := dk_180 1 38 (dk_at dksX4_keeps_0 1 rfl rfl)
theorem dX4_keeps_4 : decode cX4_keeps 4 = .ok (.bipush 40, 2) := dk_16 40 (dk_at dksX4_keeps_0 4 rfl rfl)
theorem dX4_keeps_6 : decode cX4_keeps 6 = .ok (.if_icmp .ne 44, 3) := dk_160 0 44 (dk_at dksX4_keeps_0 6 rfl rfl)
theorem dX4_keeps_9 : decode cX4_keeps 9 = .ok (.bipush 49, 2) := dk_16 49 (dk_at dksX4_keeps_0 9 rfl rfl)
theorem dX4_keeps_11 : decode cX4_keeps 11 = .ok (.istore_n 1, 1) := dk_60 (dk_at dksX4_keeps_0 11 rfl rfl)
theorem dX4_keeps_12 : decode cX4_keeps 12 = .ok (.iload_n 1, 1) := dk_27 (dk_at dksX4_keeps_0 12 rfl rfl)
theorem dX4_keeps_13 : decode cX4_keeps 13 = .ok (.sipush 1960, 3) := dk_17 7 168 (dk_at dksX4_keeps_0 13 rfl rfl)
theorem dX4_keeps_16 : decode cX4_keeps 16 = .ok (.if_icmp .ge 24, 3) := dk_162 0 24 (dk_at dksX4_keeps_0 16 rfl rfl)
theorem dX4_keeps_19 : decode cX4_keeps 19 = .ok (.aload_n 0, 1) := dk_42 (dk_at dksX4_keeps_0 19 rfl rfl)
theorem dX4_keeps_20 : decode cX4_keeps 20 = .ok (.getfield 69, 3) := dk_180 0 69 (dk_at dksX4_keeps_0 20 rfl rfl)
theorem dX4_keeps_23 : decode cX4_keeps 23 = .ok (.iload_n 1, 1) := dk_27 (dk_at dksX4_keeps_0 23 rfl rfl)
theorem dX4_keeps_24 : decode cX4_keeps 24 = .ok (.bipush 49, 2) := dk_16 49 (dk_at dksX4_keeps_1 0 rfl rfl)
theorem dX4_keeps_26 : decode cX4_keeps 26 = .ok (.isub, 1) := dk_100 (dk_at dksX4_keeps_1 2 rfl rfl)
theorem dX4_keeps_27 : decode cX4_keeps 27 = .ok (.aload_n 0, 1) := dk_42 (dk_at dksX4_keeps_1 3 rfl rfl)
theorem dX4_keeps_28 : decode cX4_keeps 28 = .ok (.getfield 69, 3) := dk_180 0 69 (dk_at dksX4_keeps_1 4 rfl rfl)
theorem dX4_keeps_31 : decode cX4_keeps 31 = .ok (.iload_n 1, 1) := dk_27 (dk_at dksX4_keeps_1 7 rfl rfl)
theorem dX4_keeps_32 : decode cX4_keeps 32 = .ok (.iaload, 1) := dk_46 (dk_at dksX4_keeps_1 8 rfl rfl)
theorem dX4_keeps_33 : decode cX4_keeps 33 = .ok (.iastore, 1) := dk_79 (dk_at dksX4_keeps_1 9 rfl rfl)
theorem dX4_keeps_34 : decode cX4_keeps 34 = .ok (.iinc 1 1, 3) := dk_132 1 1 (dk_at dksX4_keeps_1 10 rfl rfl)
theorem dX4_keeps_37 : decode cX4_keeps 37 = .ok (.goto (-25), 3) := dk_167 255 231 (dk_at dksX4_keeps_1 13 rfl rfl)
theorem dX4_keeps_40 : decode cX4_keeps 40 = .ok (.aload_n 0, 1) := dk_42 (dk_at dksX4_keeps_1 16 rfl rfl)
theorem dX4_keeps_41 : decode cX4_keeps 41 = .ok (.dup, 1) := dk_89 (dk_at dksX4_keeps_1 17 rfl rfl)
theorem dX4_keeps_42 : decode cX4_keeps 42 = .ok (.getfield 294, 3) := dk_180 1 38 (dk_at dksX4_keeps_1 18 rfl rfl)
theorem dX4_keeps_45 : decode cX4_keeps 45 = .ok (.iconst 1, 1) := dk_4 (dk_at dksX4_keeps_1 21 rfl rfl)
theorem dX4_keeps_46 : decode cX4_keeps 46 = .ok (.isub, 1) := dk_100 (dk_at dksX4_keeps_1 22 rfl rfl)
theorem dX4_keeps_47 : decode cX4_keeps 47 = .ok (.putfield 294, 3) := dk_181 1 38 (dk_at dksX4_keeps_2 0 rfl rfl)
theorem dX4_keeps_50 : decode cX4_keeps 50 = .ok (.iconst 0, 1) := dk_3 (dk_at dksX4_keeps_2 3 rfl rfl)
theorem dX4_keeps_51 : decode cX4_keeps 51 = .ok (.istore_n 1, 1) := dk_60 (dk_at dksX4_keeps_2 4 rfl rfl)
theorem dX4_keeps_52 : decode cX4_keeps 52 = .ok (.iload_n 1, 1) := dk_27 (dk_at dksX4_keeps_2 5 rfl rfl)
theorem dX4_keeps_53 : decode cX4_keeps 53 = .ok (.bipush 49, 2) := dk_16 49 (dk_at dksX4_keeps_2 6 rfl rfl)
theorem dX4_keeps_55 : decode cX4_keeps 55 = .ok (.if_icmp .ge 29, 3) := dk_162 0 29 (dk_at dksX4_keeps_2 8 rfl rfl)
theorem dX4_keeps_58 : decode cX4_keeps 58 = .ok (.aload_n 0, 1) := dk_42 (dk_at dksX4_keeps_2 11 rfl rfl)
theorem dX4_keeps_59 : decode cX4_keeps 59 = .ok (.getfield 69, 3) := dk_180 0 69 (dk_at dksX4_keeps_2 12 rfl rfl)
theorem dX4_keeps_62 : decode cX4_keeps 62 = .ok (.bipush 49, 2) := dk_16 49 (dk_at dksX4_keeps_2 15 rfl rfl)
theorem dX4_keeps_64 : decode cX4_keeps 64 = .ok (.aload_n 0, 1) := dk_42 (dk_at dksX4_keeps_2 17 rfl rfl)
theorem dX4_keeps_65 : decode cX4_keeps 65 = .ok (.getfield 294, 3) := dk_180 1 38 (dk_at dksX4_keeps_2 18 rfl rfl)
theorem dX4_keeps_68 : decode cX4_keeps 68 = .ok (.imul, 1) := dk_104 (dk_at dksX4_keeps_2 21 rfl rfl)
theorem dX4_keeps_69 : decode cX4_keeps 69 = .ok (.iload_n 1, 1) := dk_27 (dk_at dksX4_keeps_2 22 rfl rfl)
theorem dX4_keeps_70 : decode cX4_keeps 70 = .ok (.iadd, 1) := dk_96 (dk_at dksX4_keeps_2 23 rfl rfl)
theorem dX4_keeps_71 : decode cX4_keeps 71 = .ok (.aload_n 0, 1) := dk_42 (dk_at dksX4_keeps_3 0 rfl rfl)
theorem dX4_keeps_72 : decode cX4_keeps 72 = .ok (.getfield 66, 3) := dk_180 0 66 (dk_at dksX4_keeps_3 1 rfl rfl)
theorem dX4_keeps_75 : decode cX4_keeps 75 = .ok (.iload_n 1, 1) := dk_27 (dk_at dksX4_keeps_3 4 rfl rfl)
theorem dX4_keeps_76 : decode cX4_keeps 76 = .ok (.iaload, 1) := dk_46 (dk_at dksX4_keeps_3 5 rfl rfl)
theorem dX4_keeps_77 : decode cX4_keeps 77 = .ok (.iastore, 1) := dk_79 (dk_at dksX4_keeps_3 6 rfl rfl)
theorem dX4_keeps_78 : decode cX4_keeps 78 = .ok (.iinc 1 1, 3) := dk_132 1 1 (dk_at dksX4_keeps_3 7 rfl rfl)
theorem dX4_keeps_81 : decode cX4_keeps 81 = .ok (.goto (-29), 3) := dk_167 255 227 (dk_at dksX4_keeps_3 10 rfl rfl)
theorem dX4_keeps_84 : decode cX4_keeps 84 = .ok (.aload_n 0, 1) := dk_42 (dk_at dksX4_keeps_3 13 rfl rfl)
theorem dX4_keeps_85 : decode cX4_keeps 85 = .ok (.dup, 1) := dk_89 (dk_at dksX4_keeps_3 14 rfl rfl)
theorem dX4_keeps_86 : decode cX4_keeps 86 = .ok (.getfield 294, 3) := dk_180 1 38 (dk_at dksX4_keeps_3 15 rfl rfl)
theorem dX4_keeps_89 : decode cX4_keeps 89 = .ok (.iconst 1, 1) := dk_4 (dk_at dksX4_keeps_3 18 rfl rfl)
theorem dX4_keeps_90 : decode cX4_keeps 90 = .ok (.iadd, 1) := dk_96 (dk_at dksX4_keeps_3 19 rfl rfl)
theorem dX4_keeps_91 : decode cX4_keeps 91 = .ok (.putfield 294, 3) := dk_181 1 38 (dk_at dksX4_keeps_3 20 rfl rfl)
theorem dX4_keeps_94 : decode cX4_keeps 94 = .ok (.return_, 1) := dk_177 (dk_at dksX4_keeps_3 23 rfl rfl)
abbrev cX4_refuses : ByteArray := prog_12_method_43_code
def yX4_refuses : MethodName := ⟨RX4, "refuses", "(I)I"⟩
def dkwX4_refuses_0 : List UInt8 := [42, 180, 0, 41, 27, 92, 46, 4, 96, 79, 2, 172]
abbrev dktX4_refuses_0 : List UInt8 := dkwX4_refuses_0 ++ []
theorem dksX4_refuses_0 : cX4_refuses.data.toList.drop 0 = dktX4_refuses_0 := by decide +kernel
theorem dX4_refuses_0 : decode cX4_refuses 0 = .ok (.aload_n 0, 1) := dk_42 (dk_at dksX4_refuses_0 0 rfl rfl)
theorem dX4_refuses_1 : decode cX4_refuses 1 = .ok (.getfield 41, 3) := dk_180 0 41 (dk_at dksX4_refuses_0 1 rfl rfl)
theorem dX4_refuses_4 : decode cX4_refuses 4 = .ok (.iload_n 1, 1) := dk_27 (dk_at dksX4_refuses_0 4 rfl rfl)
theorem dX4_refuses_5 : decode cX4_refuses 5 = .ok (.dup2, 1) := dk_92 (dk_at dksX4_refuses_0 5 rfl rfl)
theorem dX4_refuses_6 : decode cX4_refuses 6 = .ok (.iaload, 1) := dk_46 (dk_at dksX4_refuses_0 6 rfl rfl)
theorem dX4_refuses_7 : decode cX4_refuses 7 = .ok (.iconst 1, 1) := dk_4 (dk_at dksX4_refuses_0 7 rfl rfl)
theorem dX4_refuses_8 : decode cX4_refuses 8 = .ok (.iadd, 1) := dk_96 (dk_at dksX4_refuses_0 8 rfl rfl)
theorem dX4_refuses_9 : decode cX4_refuses 9 = .ok (.iastore, 1) := dk_79 (dk_at dksX4_refuses_0 9 rfl rfl)
theorem dX4_refuses_10 : decode cX4_refuses 10 = .ok (.iconst (-1), 1) := dk_2 (dk_at dksX4_refuses_0 10 rfl rfl)
theorem dX4_refuses_11 : decode cX4_refuses 11 = .ok (.ireturn, 1) := dk_172 (dk_at dksX4_refuses_0 11 rfl rfl)
abbrev cX4_days : ByteArray := prog_12_method_72_code
def yX4_days : MethodName := ⟨RX4, "days", "(I)I"⟩
def dkwX4_days_2 : List UInt8 := [3, 182, 1, 103, 132, 2, 1, 167, 255, 243, 42, 180, 0, 66, 3, 46, 172]
abbrev dktX4_days_2 : List UInt8 := dkwX4_days_2 ++ []
def dkwX4_days_1 : List UInt8 := [17, 3, 231, 164, 0, 9, 42, 4, 182, 1, 128, 172, 42, 182, 1, 131, 3, 61, 28, 27, 162, 0, 14, 42]
abbrev dktX4_days_1 : List UInt8 := dkwX4_days_1 ++ dktX4_days_2
def dkwX4_days_0 : List UInt8 := [42, 3, 181, 0, 117, 27, 4, 16, 20, 184, 1, 106, 153, 0, 17, 42, 180, 0, 66, 3, 46, 27, 96]
abbrev dktX4_days_0 : List UInt8 := dkwX4_days_0 ++ dktX4_days_1
theorem dksX4_days_0 : cX4_days.data.toList.drop 0 = dktX4_days_0 := by decide +kernel
theorem dksX4_days_1 : cX4_days.data.toList.drop 23 = dktX4_days_1 := dk_seg dksX4_days_0 23 rfl rfl
theorem dksX4_days_2 : cX4_days.data.toList.drop 47 = dktX4_days_2 := dk_seg dksX4_days_1 24 rfl rfl
theorem dX4_days_0 : decode cX4_days 0 = .ok (.aload_n 0, 1) := dk_42 (dk_at dksX4_days_0 0 rfl rfl)
theorem dX4_days_1 : decode cX4_days 1 = .ok (.iconst 0, 1) := dk_3 (dk_at dksX4_days_0 1 rfl rfl)
theorem dX4_days_2 : decode cX4_days 2 = .ok (.putfield 117, 3) := dk_181 0 117 (dk_at dksX4_days_0 2 rfl rfl)
theorem dX4_days_5 : decode cX4_days 5 = .ok (.iload_n 1, 1) := dk_27 (dk_at dksX4_days_0 5 rfl rfl)
theorem dX4_days_6 : decode cX4_days 6 = .ok (.iconst 1, 1) := dk_4 (dk_at dksX4_days_0 6 rfl rfl)
theorem dX4_days_7 : decode cX4_days 7 = .ok (.bipush 20, 2) := dk_16 20 (dk_at dksX4_days_0 7 rfl rfl)
theorem dX4_days_9 : decode cX4_days 9 = .ok (.invokestatic 362, 3) := dk_184 1 106 (dk_at dksX4_days_0 9 rfl rfl)
theorem dX4_days_12 : decode cX4_days 12 = .ok (.ifCond .eq 17, 3) := dk_153 0 17 (dk_at dksX4_days_0 12 rfl rfl)
theorem dX4_days_15 : decode cX4_days 15 = .ok (.aload_n 0, 1) := dk_42 (dk_at dksX4_days_0 15 rfl rfl)
theorem dX4_days_16 : decode cX4_days 16 = .ok (.getfield 66, 3) := dk_180 0 66 (dk_at dksX4_days_0 16 rfl rfl)
theorem dX4_days_19 : decode cX4_days 19 = .ok (.iconst 0, 1) := dk_3 (dk_at dksX4_days_0 19 rfl rfl)
theorem dX4_days_20 : decode cX4_days 20 = .ok (.iaload, 1) := dk_46 (dk_at dksX4_days_0 20 rfl rfl)
theorem dX4_days_21 : decode cX4_days 21 = .ok (.iload_n 1, 1) := dk_27 (dk_at dksX4_days_0 21 rfl rfl)
theorem dX4_days_22 : decode cX4_days 22 = .ok (.iadd, 1) := dk_96 (dk_at dksX4_days_0 22 rfl rfl)
theorem dX4_days_23 : decode cX4_days 23 = .ok (.sipush 999, 3) := dk_17 3 231 (dk_at dksX4_days_1 0 rfl rfl)
theorem dX4_days_26 : decode cX4_days 26 = .ok (.if_icmp .le 9, 3) := dk_164 0 9 (dk_at dksX4_days_1 3 rfl rfl)
theorem dX4_days_29 : decode cX4_days 29 = .ok (.aload_n 0, 1) := dk_42 (dk_at dksX4_days_1 6 rfl rfl)
theorem dX4_days_30 : decode cX4_days 30 = .ok (.iconst 1, 1) := dk_4 (dk_at dksX4_days_1 7 rfl rfl)
theorem dX4_days_31 : decode cX4_days 31 = .ok (.invokevirtual 384, 3) := dk_182 1 128 (dk_at dksX4_days_1 8 rfl rfl)
theorem dX4_days_34 : decode cX4_days 34 = .ok (.ireturn, 1) := dk_172 (dk_at dksX4_days_1 11 rfl rfl)
theorem dX4_days_35 : decode cX4_days 35 = .ok (.aload_n 0, 1) := dk_42 (dk_at dksX4_days_1 12 rfl rfl)
theorem dX4_days_36 : decode cX4_days 36 = .ok (.invokevirtual 387, 3) := dk_182 1 131 (dk_at dksX4_days_1 13 rfl rfl)
theorem dX4_days_39 : decode cX4_days 39 = .ok (.iconst 0, 1) := dk_3 (dk_at dksX4_days_1 16 rfl rfl)
theorem dX4_days_40 : decode cX4_days 40 = .ok (.istore_n 2, 1) := dk_61 (dk_at dksX4_days_1 17 rfl rfl)
theorem dX4_days_41 : decode cX4_days 41 = .ok (.iload_n 2, 1) := dk_28 (dk_at dksX4_days_1 18 rfl rfl)
theorem dX4_days_42 : decode cX4_days 42 = .ok (.iload_n 1, 1) := dk_27 (dk_at dksX4_days_1 19 rfl rfl)
theorem dX4_days_43 : decode cX4_days 43 = .ok (.if_icmp .ge 14, 3) := dk_162 0 14 (dk_at dksX4_days_1 20 rfl rfl)
theorem dX4_days_46 : decode cX4_days 46 = .ok (.aload_n 0, 1) := dk_42 (dk_at dksX4_days_1 23 rfl rfl)
theorem dX4_days_47 : decode cX4_days 47 = .ok (.iconst 0, 1) := dk_3 (dk_at dksX4_days_2 0 rfl rfl)
theorem dX4_days_48 : decode cX4_days 48 = .ok (.invokevirtual 359, 3) := dk_182 1 103 (dk_at dksX4_days_2 1 rfl rfl)
theorem dX4_days_51 : decode cX4_days 51 = .ok (.iinc 2 1, 3) := dk_132 2 1 (dk_at dksX4_days_2 4 rfl rfl)
theorem dX4_days_54 : decode cX4_days 54 = .ok (.goto (-13), 3) := dk_167 255 243 (dk_at dksX4_days_2 7 rfl rfl)
theorem dX4_days_57 : decode cX4_days 57 = .ok (.aload_n 0, 1) := dk_42 (dk_at dksX4_days_2 10 rfl rfl)
theorem dX4_days_58 : decode cX4_days 58 = .ok (.getfield 66, 3) := dk_180 0 66 (dk_at dksX4_days_2 11 rfl rfl)
theorem dX4_days_61 : decode cX4_days 61 = .ok (.iconst 0, 1) := dk_3 (dk_at dksX4_days_2 14 rfl rfl)
theorem dX4_days_62 : decode cX4_days 62 = .ok (.iaload, 1) := dk_46 (dk_at dksX4_days_2 15 rfl rfl)
theorem dX4_days_63 : decode cX4_days 63 = .ok (.ireturn, 1) := dk_172 (dk_at dksX4_days_2 16 rfl rfl)
abbrev cX4_mend : ByteArray := prog_12_method_73_code
def yX4_mend : MethodName := ⟨RX4, "mend", "(I)I"⟩
def dkwX4_mend_2 : List UInt8 := [16, 13, 42, 180, 0, 66, 16, 37, 27, 96, 46, 96, 46, 172]
abbrev dktX4_mend_2 : List UInt8 := dkwX4_mend_2 ++ []
def dkwX4_mend_1 : List UInt8 := [154, 0, 9, 42, 4, 182, 1, 128, 172, 42, 182, 1, 131, 42, 3, 27, 182, 1, 96, 42, 180, 0, 66]
abbrev dktX4_mend_1 : List UInt8 := dkwX4_mend_1 ++ dktX4_mend_2
def dkwX4_mend_0 : List UInt8 := [42, 3, 181, 0, 117, 42, 27, 182, 1, 125, 154, 0, 5, 3, 172, 42, 180, 0, 66, 16, 43, 27, 96, 46]
abbrev dktX4_mend_0 : List UInt8 := dkwX4_mend_0 ++ dktX4_mend_1
theorem dksX4_mend_0 : cX4_mend.data.toList.drop 0 = dktX4_mend_0 := by decide +kernel
theorem dksX4_mend_1 : cX4_mend.data.toList.drop 24 = dktX4_mend_1 := dk_seg dksX4_mend_0 24 rfl rfl
theorem dksX4_mend_2 : cX4_mend.data.toList.drop 47 = dktX4_mend_2 := dk_seg dksX4_mend_1 23 rfl rfl
theorem dX4_mend_0 : decode cX4_mend 0 = .ok (.aload_n 0, 1) := dk_42 (dk_at dksX4_mend_0 0 rfl rfl)
theorem dX4_mend_1 : decode cX4_mend 1 = .ok (.iconst 0, 1) := dk_3 (dk_at dksX4_mend_0 1 rfl rfl)
theorem dX4_mend_2 : decode cX4_mend 2 = .ok (.putfield 117, 3) := dk_181 0 117 (dk_at dksX4_mend_0 2 rfl rfl)
theorem dX4_mend_5 : decode cX4_mend 5 = .ok (.aload_n 0, 1) := dk_42 (dk_at dksX4_mend_0 5 rfl rfl)
theorem dX4_mend_6 : decode cX4_mend 6 = .ok (.iload_n 1, 1) := dk_27 (dk_at dksX4_mend_0 6 rfl rfl)
theorem dX4_mend_7 : decode cX4_mend 7 = .ok (.invokevirtual 381, 3) := dk_182 1 125 (dk_at dksX4_mend_0 7 rfl rfl)
theorem dX4_mend_10 : decode cX4_mend 10 = .ok (.ifCond .ne 5, 3) := dk_154 0 5 (dk_at dksX4_mend_0 10 rfl rfl)
theorem dX4_mend_13 : decode cX4_mend 13 = .ok (.iconst 0, 1) := dk_3 (dk_at dksX4_mend_0 13 rfl rfl)
theorem dX4_mend_14 : decode cX4_mend 14 = .ok (.ireturn, 1) := dk_172 (dk_at dksX4_mend_0 14 rfl rfl)
theorem dX4_mend_15 : decode cX4_mend 15 = .ok (.aload_n 0, 1) := dk_42 (dk_at dksX4_mend_0 15 rfl rfl)
theorem dX4_mend_16 : decode cX4_mend 16 = .ok (.getfield 66, 3) := dk_180 0 66 (dk_at dksX4_mend_0 16 rfl rfl)
theorem dX4_mend_19 : decode cX4_mend 19 = .ok (.bipush 43, 2) := dk_16 43 (dk_at dksX4_mend_0 19 rfl rfl)
theorem dX4_mend_21 : decode cX4_mend 21 = .ok (.iload_n 1, 1) := dk_27 (dk_at dksX4_mend_0 21 rfl rfl)
theorem dX4_mend_22 : decode cX4_mend 22 = .ok (.iadd, 1) := dk_96 (dk_at dksX4_mend_0 22 rfl rfl)
theorem dX4_mend_23 : decode cX4_mend 23 = .ok (.iaload, 1) := dk_46 (dk_at dksX4_mend_0 23 rfl rfl)
theorem dX4_mend_24 : decode cX4_mend 24 = .ok (.ifCond .ne 9, 3) := dk_154 0 9 (dk_at dksX4_mend_1 0 rfl rfl)
theorem dX4_mend_27 : decode cX4_mend 27 = .ok (.aload_n 0, 1) := dk_42 (dk_at dksX4_mend_1 3 rfl rfl)
theorem dX4_mend_28 : decode cX4_mend 28 = .ok (.iconst 1, 1) := dk_4 (dk_at dksX4_mend_1 4 rfl rfl)
theorem dX4_mend_29 : decode cX4_mend 29 = .ok (.invokevirtual 384, 3) := dk_182 1 128 (dk_at dksX4_mend_1 5 rfl rfl)
theorem dX4_mend_32 : decode cX4_mend 32 = .ok (.ireturn, 1) := dk_172 (dk_at dksX4_mend_1 8 rfl rfl)
theorem dX4_mend_33 : decode cX4_mend 33 = .ok (.aload_n 0, 1) := dk_42 (dk_at dksX4_mend_1 9 rfl rfl)
theorem dX4_mend_34 : decode cX4_mend 34 = .ok (.invokevirtual 387, 3) := dk_182 1 131 (dk_at dksX4_mend_1 10 rfl rfl)
theorem dX4_mend_37 : decode cX4_mend 37 = .ok (.aload_n 0, 1) := dk_42 (dk_at dksX4_mend_1 13 rfl rfl)
theorem dX4_mend_38 : decode cX4_mend 38 = .ok (.iconst 0, 1) := dk_3 (dk_at dksX4_mend_1 14 rfl rfl)
theorem dX4_mend_39 : decode cX4_mend 39 = .ok (.iload_n 1, 1) := dk_27 (dk_at dksX4_mend_1 15 rfl rfl)
theorem dX4_mend_40 : decode cX4_mend 40 = .ok (.invokevirtual 352, 3) := dk_182 1 96 (dk_at dksX4_mend_1 16 rfl rfl)
theorem dX4_mend_43 : decode cX4_mend 43 = .ok (.aload_n 0, 1) := dk_42 (dk_at dksX4_mend_1 19 rfl rfl)
theorem dX4_mend_44 : decode cX4_mend 44 = .ok (.getfield 66, 3) := dk_180 0 66 (dk_at dksX4_mend_1 20 rfl rfl)
theorem dX4_mend_47 : decode cX4_mend 47 = .ok (.bipush 13, 2) := dk_16 13 (dk_at dksX4_mend_2 0 rfl rfl)
theorem dX4_mend_49 : decode cX4_mend 49 = .ok (.aload_n 0, 1) := dk_42 (dk_at dksX4_mend_2 2 rfl rfl)
theorem dX4_mend_50 : decode cX4_mend 50 = .ok (.getfield 66, 3) := dk_180 0 66 (dk_at dksX4_mend_2 3 rfl rfl)
theorem dX4_mend_53 : decode cX4_mend 53 = .ok (.bipush 37, 2) := dk_16 37 (dk_at dksX4_mend_2 6 rfl rfl)
theorem dX4_mend_55 : decode cX4_mend 55 = .ok (.iload_n 1, 1) := dk_27 (dk_at dksX4_mend_2 8 rfl rfl)
theorem dX4_mend_56 : decode cX4_mend 56 = .ok (.iadd, 1) := dk_96 (dk_at dksX4_mend_2 9 rfl rfl)
theorem dX4_mend_57 : decode cX4_mend 57 = .ok (.iaload, 1) := dk_46 (dk_at dksX4_mend_2 10 rfl rfl)
theorem dX4_mend_58 : decode cX4_mend 58 = .ok (.iadd, 1) := dk_96 (dk_at dksX4_mend_2 11 rfl rfl)
theorem dX4_mend_59 : decode cX4_mend 59 = .ok (.iaload, 1) := dk_46 (dk_at dksX4_mend_2 12 rfl rfl)
theorem dX4_mend_60 : decode cX4_mend 60 = .ok (.ireturn, 1) := dk_172 (dk_at dksX4_mend_2 13 rfl rfl)
abbrev cX4_go : ByteArray := prog_12_method_74_code
def yX4_go : MethodName := ⟨RX4, "go", "(II)I"⟩
def dkwX4_go_2 : List UInt8 := [42, 180, 0, 66, 16, 37, 27, 96, 28, 79, 29, 172]
abbrev dktX4_go_2 : List UInt8 := dkwX4_go_2 ++ []
def dkwX4_go_1 : List UInt8 := [180, 0, 66, 16, 37, 27, 96, 46, 62, 29, 28, 160, 0, 9, 42, 4, 182, 1, 128, 172, 42, 182, 1, 131]
abbrev dktX4_go_1 : List UInt8 := dkwX4_go_1 ++ dktX4_go_2
def dkwX4_go_0 : List UInt8 := [42, 3, 181, 0, 117, 42, 27, 182, 1, 125, 153, 0, 11, 42, 28, 182, 1, 119, 154, 0, 5, 3, 172, 42]
abbrev dktX4_go_0 : List UInt8 := dkwX4_go_0 ++ dktX4_go_1
theorem dksX4_go_0 : cX4_go.data.toList.drop 0 = dktX4_go_0 := by decide +kernel
theorem dksX4_go_1 : cX4_go.data.toList.drop 24 = dktX4_go_1 := dk_seg dksX4_go_0 24 rfl rfl
theorem dksX4_go_2 : cX4_go.data.toList.drop 48 = dktX4_go_2 := dk_seg dksX4_go_1 24 rfl rfl
theorem dX4_go_0 : decode cX4_go 0 = .ok (.aload_n 0, 1) := dk_42 (dk_at dksX4_go_0 0 rfl rfl)
theorem dX4_go_1 : decode cX4_go 1 = .ok (.iconst 0, 1) := dk_3 (dk_at dksX4_go_0 1 rfl rfl)
theorem dX4_go_2 : decode cX4_go 2 = .ok (.putfield 117, 3) := dk_181 0 117 (dk_at dksX4_go_0 2 rfl rfl)
theorem dX4_go_5 : decode cX4_go 5 = .ok (.aload_n 0, 1) := dk_42 (dk_at dksX4_go_0 5 rfl rfl)
theorem dX4_go_6 : decode cX4_go 6 = .ok (.iload_n 1, 1) := dk_27 (dk_at dksX4_go_0 6 rfl rfl)
theorem dX4_go_7 : decode cX4_go 7 = .ok (.invokevirtual 381, 3) := dk_182 1 125 (dk_at dksX4_go_0 7 rfl rfl)
theorem dX4_go_10 : decode cX4_go 10 = .ok (.ifCond .eq 11, 3) := dk_153 0 11 (dk_at dksX4_go_0 10 rfl rfl)
theorem dX4_go_13 : decode cX4_go 13 = .ok (.aload_n 0, 1) := dk_42 (dk_at dksX4_go_0 13 rfl rfl)
theorem dX4_go_14 : decode cX4_go 14 = .ok (.iload_n 2, 1) := dk_28 (dk_at dksX4_go_0 14 rfl rfl)
theorem dX4_go_15 : decode cX4_go 15 = .ok (.invokevirtual 375, 3) := dk_182 1 119 (dk_at dksX4_go_0 15 rfl rfl)
theorem dX4_go_18 : decode cX4_go 18 = .ok (.ifCond .ne 5, 3) := dk_154 0 5 (dk_at dksX4_go_0 18 rfl rfl)
theorem dX4_go_21 : decode cX4_go 21 = .ok (.iconst 0, 1) := dk_3 (dk_at dksX4_go_0 21 rfl rfl)
theorem dX4_go_22 : decode cX4_go 22 = .ok (.ireturn, 1) := dk_172 (dk_at dksX4_go_0 22 rfl rfl)
theorem dX4_go_23 : decode cX4_go 23 = .ok (.aload_n 0, 1) := dk_42 (dk_at dksX4_go_0 23 rfl rfl)
theorem dX4_go_24 : decode cX4_go 24 = .ok (.getfield 66, 3) := dk_180 0 66 (dk_at dksX4_go_1 0 rfl rfl)
theorem dX4_go_27 : decode cX4_go 27 = .ok (.bipush 37, 2) := dk_16 37 (dk_at dksX4_go_1 3 rfl rfl)
theorem dX4_go_29 : decode cX4_go 29 = .ok (.iload_n 1, 1) := dk_27 (dk_at dksX4_go_1 5 rfl rfl)
theorem dX4_go_30 : decode cX4_go 30 = .ok (.iadd, 1) := dk_96 (dk_at dksX4_go_1 6 rfl rfl)
theorem dX4_go_31 : decode cX4_go 31 = .ok (.iaload, 1) := dk_46 (dk_at dksX4_go_1 7 rfl rfl)
theorem dX4_go_32 : decode cX4_go 32 = .ok (.istore_n 3, 1) := dk_62 (dk_at dksX4_go_1 8 rfl rfl)
theorem dX4_go_33 : decode cX4_go 33 = .ok (.iload_n 3, 1) := dk_29 (dk_at dksX4_go_1 9 rfl rfl)
theorem dX4_go_34 : decode cX4_go 34 = .ok (.iload_n 2, 1) := dk_28 (dk_at dksX4_go_1 10 rfl rfl)
theorem dX4_go_35 : decode cX4_go 35 = .ok (.if_icmp .ne 9, 3) := dk_160 0 9 (dk_at dksX4_go_1 11 rfl rfl)
theorem dX4_go_38 : decode cX4_go 38 = .ok (.aload_n 0, 1) := dk_42 (dk_at dksX4_go_1 14 rfl rfl)
theorem dX4_go_39 : decode cX4_go 39 = .ok (.iconst 1, 1) := dk_4 (dk_at dksX4_go_1 15 rfl rfl)
theorem dX4_go_40 : decode cX4_go 40 = .ok (.invokevirtual 384, 3) := dk_182 1 128 (dk_at dksX4_go_1 16 rfl rfl)
theorem dX4_go_43 : decode cX4_go 43 = .ok (.ireturn, 1) := dk_172 (dk_at dksX4_go_1 19 rfl rfl)
theorem dX4_go_44 : decode cX4_go 44 = .ok (.aload_n 0, 1) := dk_42 (dk_at dksX4_go_1 20 rfl rfl)
theorem dX4_go_45 : decode cX4_go 45 = .ok (.invokevirtual 387, 3) := dk_182 1 131 (dk_at dksX4_go_1 21 rfl rfl)
theorem dX4_go_48 : decode cX4_go 48 = .ok (.aload_n 0, 1) := dk_42 (dk_at dksX4_go_2 0 rfl rfl)
theorem dX4_go_49 : decode cX4_go 49 = .ok (.getfield 66, 3) := dk_180 0 66 (dk_at dksX4_go_2 1 rfl rfl)
theorem dX4_go_52 : decode cX4_go 52 = .ok (.bipush 37, 2) := dk_16 37 (dk_at dksX4_go_2 4 rfl rfl)
theorem dX4_go_54 : decode cX4_go 54 = .ok (.iload_n 1, 1) := dk_27 (dk_at dksX4_go_2 6 rfl rfl)
theorem dX4_go_55 : decode cX4_go 55 = .ok (.iadd, 1) := dk_96 (dk_at dksX4_go_2 7 rfl rfl)
theorem dX4_go_56 : decode cX4_go 56 = .ok (.iload_n 2, 1) := dk_28 (dk_at dksX4_go_2 8 rfl rfl)
theorem dX4_go_57 : decode cX4_go 57 = .ok (.iastore, 1) := dk_79 (dk_at dksX4_go_2 9 rfl rfl)
theorem dX4_go_58 : decode cX4_go 58 = .ok (.iload_n 3, 1) := dk_29 (dk_at dksX4_go_2 10 rfl rfl)
theorem dX4_go_59 : decode cX4_go 59 = .ok (.ireturn, 1) := dk_172 (dk_at dksX4_go_2 11 rfl rfl)
abbrev cX4_stitch : ByteArray := prog_12_method_75_code
def yX4_stitch : MethodName := ⟨RX4, "stitch", "(II)I"⟩
def dkwX4_stitch_2 : List UInt8 := [182, 1, 131, 42, 180, 0, 66, 16, 25, 27, 96, 28, 79, 29, 172]
abbrev dktX4_stitch_2 : List UInt8 := dkwX4_stitch_2 ++ []
def dkwX4_stitch_1 : List UInt8 := [62, 28, 3, 5, 184, 1, 106, 153, 0, 8, 29, 28, 160, 0, 9, 42, 4, 182, 1, 128, 172, 42]
abbrev dktX4_stitch_1 : List UInt8 := dkwX4_stitch_1 ++ dktX4_stitch_2
def dkwX4_stitch_0 : List UInt8 := [42, 3, 181, 0, 117, 42, 27, 182, 1, 119, 154, 0, 5, 3, 172, 42, 180, 0, 66, 16, 25, 27, 96, 46]
abbrev dktX4_stitch_0 : List UInt8 := dkwX4_stitch_0 ++ dktX4_stitch_1
theorem dksX4_stitch_0 : cX4_stitch.data.toList.drop 0 = dktX4_stitch_0 := by decide +kernel
theorem dksX4_stitch_1 : cX4_stitch.data.toList.drop 24 = dktX4_stitch_1 := dk_seg dksX4_stitch_0 24 rfl rfl
theorem dksX4_stitch_2 : cX4_stitch.data.toList.drop 46 = dktX4_stitch_2 := dk_seg dksX4_stitch_1 22 rfl rfl
theorem dX4_stitch_0 : decode cX4_stitch 0 = .ok (.aload_n 0, 1) := dk_42 (dk_at dksX4_stitch_0 0 rfl rfl)
theorem dX4_stitch_1 : decode cX4_stitch 1 = .ok (.iconst 0, 1) := dk_3 (dk_at dksX4_stitch_0 1 rfl rfl)
theorem dX4_stitch_2 : decode cX4_stitch 2 = .ok (.putfield 117, 3) := dk_181 0 117 (dk_at dksX4_stitch_0 2 rfl rfl)
theorem dX4_stitch_5 : decode cX4_stitch 5 = .ok (.aload_n 0, 1) := dk_42 (dk_at dksX4_stitch_0 5 rfl rfl)
theorem dX4_stitch_6 : decode cX4_stitch 6 = .ok (.iload_n 1, 1) := dk_27 (dk_at dksX4_stitch_0 6 rfl rfl)
theorem dX4_stitch_7 : decode cX4_stitch 7 = .ok (.invokevirtual 375, 3) := dk_182 1 119 (dk_at dksX4_stitch_0 7 rfl rfl)
theorem dX4_stitch_10 : decode cX4_stitch 10 = .ok (.ifCond .ne 5, 3) := dk_154 0 5 (dk_at dksX4_stitch_0 10 rfl rfl)
theorem dX4_stitch_13 : decode cX4_stitch 13 = .ok (.iconst 0, 1) := dk_3 (dk_at dksX4_stitch_0 13 rfl rfl)
theorem dX4_stitch_14 : decode cX4_stitch 14 = .ok (.ireturn, 1) := dk_172 (dk_at dksX4_stitch_0 14 rfl rfl)
theorem dX4_stitch_15 : decode cX4_stitch 15 = .ok (.aload_n 0, 1) := dk_42 (dk_at dksX4_stitch_0 15 rfl rfl)
theorem dX4_stitch_16 : decode cX4_stitch 16 = .ok (.getfield 66, 3) := dk_180 0 66 (dk_at dksX4_stitch_0 16 rfl rfl)
theorem dX4_stitch_19 : decode cX4_stitch 19 = .ok (.bipush 25, 2) := dk_16 25 (dk_at dksX4_stitch_0 19 rfl rfl)
theorem dX4_stitch_21 : decode cX4_stitch 21 = .ok (.iload_n 1, 1) := dk_27 (dk_at dksX4_stitch_0 21 rfl rfl)
theorem dX4_stitch_22 : decode cX4_stitch 22 = .ok (.iadd, 1) := dk_96 (dk_at dksX4_stitch_0 22 rfl rfl)
theorem dX4_stitch_23 : decode cX4_stitch 23 = .ok (.iaload, 1) := dk_46 (dk_at dksX4_stitch_0 23 rfl rfl)
theorem dX4_stitch_24 : decode cX4_stitch 24 = .ok (.istore_n 3, 1) := dk_62 (dk_at dksX4_stitch_1 0 rfl rfl)
theorem dX4_stitch_25 : decode cX4_stitch 25 = .ok (.iload_n 2, 1) := dk_28 (dk_at dksX4_stitch_1 1 rfl rfl)
theorem dX4_stitch_26 : decode cX4_stitch 26 = .ok (.iconst 0, 1) := dk_3 (dk_at dksX4_stitch_1 2 rfl rfl)
theorem dX4_stitch_27 : decode cX4_stitch 27 = .ok (.iconst 2, 1) := dk_5 (dk_at dksX4_stitch_1 3 rfl rfl)
theorem dX4_stitch_28 : decode cX4_stitch 28 = .ok (.invokestatic 362, 3) := dk_184 1 106 (dk_at dksX4_stitch_1 4 rfl rfl)
theorem dX4_stitch_31 : decode cX4_stitch 31 = .ok (.ifCond .eq 8, 3) := dk_153 0 8 (dk_at dksX4_stitch_1 7 rfl rfl)
theorem dX4_stitch_34 : decode cX4_stitch 34 = .ok (.iload_n 3, 1) := dk_29 (dk_at dksX4_stitch_1 10 rfl rfl)
theorem dX4_stitch_35 : decode cX4_stitch 35 = .ok (.iload_n 2, 1) := dk_28 (dk_at dksX4_stitch_1 11 rfl rfl)
theorem dX4_stitch_36 : decode cX4_stitch 36 = .ok (.if_icmp .ne 9, 3) := dk_160 0 9 (dk_at dksX4_stitch_1 12 rfl rfl)
theorem dX4_stitch_39 : decode cX4_stitch 39 = .ok (.aload_n 0, 1) := dk_42 (dk_at dksX4_stitch_1 15 rfl rfl)
theorem dX4_stitch_40 : decode cX4_stitch 40 = .ok (.iconst 1, 1) := dk_4 (dk_at dksX4_stitch_1 16 rfl rfl)
theorem dX4_stitch_41 : decode cX4_stitch 41 = .ok (.invokevirtual 384, 3) := dk_182 1 128 (dk_at dksX4_stitch_1 17 rfl rfl)
theorem dX4_stitch_44 : decode cX4_stitch 44 = .ok (.ireturn, 1) := dk_172 (dk_at dksX4_stitch_1 20 rfl rfl)
theorem dX4_stitch_45 : decode cX4_stitch 45 = .ok (.aload_n 0, 1) := dk_42 (dk_at dksX4_stitch_1 21 rfl rfl)
theorem dX4_stitch_46 : decode cX4_stitch 46 = .ok (.invokevirtual 387, 3) := dk_182 1 131 (dk_at dksX4_stitch_2 0 rfl rfl)
theorem dX4_stitch_49 : decode cX4_stitch 49 = .ok (.aload_n 0, 1) := dk_42 (dk_at dksX4_stitch_2 3 rfl rfl)
theorem dX4_stitch_50 : decode cX4_stitch 50 = .ok (.getfield 66, 3) := dk_180 0 66 (dk_at dksX4_stitch_2 4 rfl rfl)
theorem dX4_stitch_53 : decode cX4_stitch 53 = .ok (.bipush 25, 2) := dk_16 25 (dk_at dksX4_stitch_2 7 rfl rfl)
theorem dX4_stitch_55 : decode cX4_stitch 55 = .ok (.iload_n 1, 1) := dk_27 (dk_at dksX4_stitch_2 9 rfl rfl)
theorem dX4_stitch_56 : decode cX4_stitch 56 = .ok (.iadd, 1) := dk_96 (dk_at dksX4_stitch_2 10 rfl rfl)
theorem dX4_stitch_57 : decode cX4_stitch 57 = .ok (.iload_n 2, 1) := dk_28 (dk_at dksX4_stitch_2 11 rfl rfl)
theorem dX4_stitch_58 : decode cX4_stitch 58 = .ok (.iastore, 1) := dk_79 (dk_at dksX4_stitch_2 12 rfl rfl)
theorem dX4_stitch_59 : decode cX4_stitch 59 = .ok (.iload_n 3, 1) := dk_29 (dk_at dksX4_stitch_2 13 rfl rfl)
theorem dX4_stitch_60 : decode cX4_stitch 60 = .ok (.ireturn, 1) := dk_172 (dk_at dksX4_stitch_2 14 rfl rfl)
abbrev cX4_thread : ByteArray := prog_12_method_76_code
def yX4_thread : MethodName := ⟨RX4, "thread", "(II)I"⟩
def dkwX4_thread_2 : List UInt8 := [180, 0, 66, 16, 43, 27, 96, 46, 28, 96, 184, 1, 80, 79, 42, 180, 0, 66, 16, 43, 27, 96, 46, 172]
abbrev dktX4_thread_2 : List UInt8 := dkwX4_thread_2 ++ []
def dkwX4_thread_1 : List UInt8 := [154, 0, 9, 42, 4, 182, 1, 128, 172, 42, 182, 1, 131, 42, 180, 0, 66, 16, 43, 27, 96, 16, 99, 42]
abbrev dktX4_thread_1 : List UInt8 := dkwX4_thread_1 ++ dktX4_thread_2
def dkwX4_thread_0 : List UInt8 := [42, 3, 181, 0, 117, 42, 27, 182, 1, 125, 154, 0, 5, 3, 172, 28, 4, 16, 50, 184, 1, 106]
abbrev dktX4_thread_0 : List UInt8 := dkwX4_thread_0 ++ dktX4_thread_1
theorem dksX4_thread_0 : cX4_thread.data.toList.drop 0 = dktX4_thread_0 := by decide +kernel
theorem dksX4_thread_1 : cX4_thread.data.toList.drop 22 = dktX4_thread_1 := dk_seg dksX4_thread_0 22 rfl rfl
theorem dksX4_thread_2 : cX4_thread.data.toList.drop 46 = dktX4_thread_2 := dk_seg dksX4_thread_1 24 rfl rfl
theorem dX4_thread_0 : decode cX4_thread 0 = .ok (.aload_n 0, 1) := dk_42 (dk_at dksX4_thread_0 0 rfl rfl)
theorem dX4_thread_1 : decode cX4_thread 1 = .ok (.iconst 0, 1) := dk_3 (dk_at dksX4_thread_0 1 rfl rfl)
theorem dX4_thread_2 : decode cX4_thread 2 = .ok (.putfield 117, 3) := dk_181 0 117 (dk_at dksX4_thread_0 2 rfl rfl)
theorem dX4_thread_5 : decode cX4_thread 5 = .ok (.aload_n 0, 1) := dk_42 (dk_at dksX4_thread_0 5 rfl rfl)
theorem dX4_thread_6 : decode cX4_thread 6 = .ok (.iload_n 1, 1) := dk_27 (dk_at dksX4_thread_0 6 rfl rfl)
theorem dX4_thread_7 : decode cX4_thread 7 = .ok (.invokevirtual 381, 3) := dk_182 1 125 (dk_at dksX4_thread_0 7 rfl rfl)
theorem dX4_thread_10 : decode cX4_thread 10 = .ok (.ifCond .ne 5, 3) := dk_154 0 5 (dk_at dksX4_thread_0 10 rfl rfl)
theorem dX4_thread_13 : decode cX4_thread 13 = .ok (.iconst 0, 1) := dk_3 (dk_at dksX4_thread_0 13 rfl rfl)
theorem dX4_thread_14 : decode cX4_thread 14 = .ok (.ireturn, 1) := dk_172 (dk_at dksX4_thread_0 14 rfl rfl)
theorem dX4_thread_15 : decode cX4_thread 15 = .ok (.iload_n 2, 1) := dk_28 (dk_at dksX4_thread_0 15 rfl rfl)
theorem dX4_thread_16 : decode cX4_thread 16 = .ok (.iconst 1, 1) := dk_4 (dk_at dksX4_thread_0 16 rfl rfl)
theorem dX4_thread_17 : decode cX4_thread 17 = .ok (.bipush 50, 2) := dk_16 50 (dk_at dksX4_thread_0 17 rfl rfl)
theorem dX4_thread_19 : decode cX4_thread 19 = .ok (.invokestatic 362, 3) := dk_184 1 106 (dk_at dksX4_thread_0 19 rfl rfl)
theorem dX4_thread_22 : decode cX4_thread 22 = .ok (.ifCond .ne 9, 3) := dk_154 0 9 (dk_at dksX4_thread_1 0 rfl rfl)
theorem dX4_thread_25 : decode cX4_thread 25 = .ok (.aload_n 0, 1) := dk_42 (dk_at dksX4_thread_1 3 rfl rfl)
theorem dX4_thread_26 : decode cX4_thread 26 = .ok (.iconst 1, 1) := dk_4 (dk_at dksX4_thread_1 4 rfl rfl)
theorem dX4_thread_27 : decode cX4_thread 27 = .ok (.invokevirtual 384, 3) := dk_182 1 128 (dk_at dksX4_thread_1 5 rfl rfl)
theorem dX4_thread_30 : decode cX4_thread 30 = .ok (.ireturn, 1) := dk_172 (dk_at dksX4_thread_1 8 rfl rfl)
theorem dX4_thread_31 : decode cX4_thread 31 = .ok (.aload_n 0, 1) := dk_42 (dk_at dksX4_thread_1 9 rfl rfl)
theorem dX4_thread_32 : decode cX4_thread 32 = .ok (.invokevirtual 387, 3) := dk_182 1 131 (dk_at dksX4_thread_1 10 rfl rfl)
theorem dX4_thread_35 : decode cX4_thread 35 = .ok (.aload_n 0, 1) := dk_42 (dk_at dksX4_thread_1 13 rfl rfl)
theorem dX4_thread_36 : decode cX4_thread 36 = .ok (.getfield 66, 3) := dk_180 0 66 (dk_at dksX4_thread_1 14 rfl rfl)
theorem dX4_thread_39 : decode cX4_thread 39 = .ok (.bipush 43, 2) := dk_16 43 (dk_at dksX4_thread_1 17 rfl rfl)
theorem dX4_thread_41 : decode cX4_thread 41 = .ok (.iload_n 1, 1) := dk_27 (dk_at dksX4_thread_1 19 rfl rfl)
theorem dX4_thread_42 : decode cX4_thread 42 = .ok (.iadd, 1) := dk_96 (dk_at dksX4_thread_1 20 rfl rfl)
theorem dX4_thread_43 : decode cX4_thread 43 = .ok (.bipush 99, 2) := dk_16 99 (dk_at dksX4_thread_1 21 rfl rfl)
theorem dX4_thread_45 : decode cX4_thread 45 = .ok (.aload_n 0, 1) := dk_42 (dk_at dksX4_thread_1 23 rfl rfl)
theorem dX4_thread_46 : decode cX4_thread 46 = .ok (.getfield 66, 3) := dk_180 0 66 (dk_at dksX4_thread_2 0 rfl rfl)
theorem dX4_thread_49 : decode cX4_thread 49 = .ok (.bipush 43, 2) := dk_16 43 (dk_at dksX4_thread_2 3 rfl rfl)
theorem dX4_thread_51 : decode cX4_thread 51 = .ok (.iload_n 1, 1) := dk_27 (dk_at dksX4_thread_2 5 rfl rfl)
theorem dX4_thread_52 : decode cX4_thread 52 = .ok (.iadd, 1) := dk_96 (dk_at dksX4_thread_2 6 rfl rfl)
theorem dX4_thread_53 : decode cX4_thread 53 = .ok (.iaload, 1) := dk_46 (dk_at dksX4_thread_2 7 rfl rfl)
theorem dX4_thread_54 : decode cX4_thread 54 = .ok (.iload_n 2, 1) := dk_28 (dk_at dksX4_thread_2 8 rfl rfl)
theorem dX4_thread_55 : decode cX4_thread 55 = .ok (.iadd, 1) := dk_96 (dk_at dksX4_thread_2 9 rfl rfl)
theorem dX4_thread_56 : decode cX4_thread 56 = .ok (.invokestatic 336, 3) := dk_184 1 80 (dk_at dksX4_thread_2 10 rfl rfl)
theorem dX4_thread_59 : decode cX4_thread 59 = .ok (.iastore, 1) := dk_79 (dk_at dksX4_thread_2 13 rfl rfl)
theorem dX4_thread_60 : decode cX4_thread 60 = .ok (.aload_n 0, 1) := dk_42 (dk_at dksX4_thread_2 14 rfl rfl)
theorem dX4_thread_61 : decode cX4_thread 61 = .ok (.getfield 66, 3) := dk_180 0 66 (dk_at dksX4_thread_2 15 rfl rfl)
theorem dX4_thread_64 : decode cX4_thread 64 = .ok (.bipush 43, 2) := dk_16 43 (dk_at dksX4_thread_2 18 rfl rfl)
theorem dX4_thread_66 : decode cX4_thread 66 = .ok (.iload_n 1, 1) := dk_27 (dk_at dksX4_thread_2 20 rfl rfl)
theorem dX4_thread_67 : decode cX4_thread 67 = .ok (.iadd, 1) := dk_96 (dk_at dksX4_thread_2 21 rfl rfl)
theorem dX4_thread_68 : decode cX4_thread 68 = .ok (.iaload, 1) := dk_46 (dk_at dksX4_thread_2 22 rfl rfl)
theorem dX4_thread_69 : decode cX4_thread 69 = .ok (.ireturn, 1) := dk_172 (dk_at dksX4_thread_2 23 rfl rfl)
abbrev cX4_tear : ByteArray := prog_12_method_77_code
def yX4_tear : MethodName := ⟨RX4, "tear", "(II)I"⟩
def dkwX4_tear_2 : List UInt8 := [27, 28, 182, 1, 93, 42, 180, 0, 66, 16, 13, 27, 96, 46, 172]
abbrev dktX4_tear_2 : List UInt8 := dkwX4_tear_2 ++ []
def dkwX4_tear_1 : List UInt8 := [153, 0, 12, 42, 3, 27, 182, 1, 70, 153, 0, 9, 42, 4, 182, 1, 128, 172, 42, 182, 1, 131, 42, 3]
abbrev dktX4_tear_1 : List UInt8 := dkwX4_tear_1 ++ dktX4_tear_2
def dkwX4_tear_0 : List UInt8 := [42, 3, 181, 0, 117, 42, 27, 182, 1, 119, 154, 0, 5, 3, 172, 28, 4, 16, 50, 184, 1, 106]
abbrev dktX4_tear_0 : List UInt8 := dkwX4_tear_0 ++ dktX4_tear_1
theorem dksX4_tear_0 : cX4_tear.data.toList.drop 0 = dktX4_tear_0 := by decide +kernel
theorem dksX4_tear_1 : cX4_tear.data.toList.drop 22 = dktX4_tear_1 := dk_seg dksX4_tear_0 22 rfl rfl
theorem dksX4_tear_2 : cX4_tear.data.toList.drop 46 = dktX4_tear_2 := dk_seg dksX4_tear_1 24 rfl rfl
theorem dX4_tear_0 : decode cX4_tear 0 = .ok (.aload_n 0, 1) := dk_42 (dk_at dksX4_tear_0 0 rfl rfl)
theorem dX4_tear_1 : decode cX4_tear 1 = .ok (.iconst 0, 1) := dk_3 (dk_at dksX4_tear_0 1 rfl rfl)
theorem dX4_tear_2 : decode cX4_tear 2 = .ok (.putfield 117, 3) := dk_181 0 117 (dk_at dksX4_tear_0 2 rfl rfl)
theorem dX4_tear_5 : decode cX4_tear 5 = .ok (.aload_n 0, 1) := dk_42 (dk_at dksX4_tear_0 5 rfl rfl)
theorem dX4_tear_6 : decode cX4_tear 6 = .ok (.iload_n 1, 1) := dk_27 (dk_at dksX4_tear_0 6 rfl rfl)
theorem dX4_tear_7 : decode cX4_tear 7 = .ok (.invokevirtual 375, 3) := dk_182 1 119 (dk_at dksX4_tear_0 7 rfl rfl)
theorem dX4_tear_10 : decode cX4_tear 10 = .ok (.ifCond .ne 5, 3) := dk_154 0 5 (dk_at dksX4_tear_0 10 rfl rfl)
theorem dX4_tear_13 : decode cX4_tear 13 = .ok (.iconst 0, 1) := dk_3 (dk_at dksX4_tear_0 13 rfl rfl)
theorem dX4_tear_14 : decode cX4_tear 14 = .ok (.ireturn, 1) := dk_172 (dk_at dksX4_tear_0 14 rfl rfl)
theorem dX4_tear_15 : decode cX4_tear 15 = .ok (.iload_n 2, 1) := dk_28 (dk_at dksX4_tear_0 15 rfl rfl)
theorem dX4_tear_16 : decode cX4_tear 16 = .ok (.iconst 1, 1) := dk_4 (dk_at dksX4_tear_0 16 rfl rfl)
theorem dX4_tear_17 : decode cX4_tear 17 = .ok (.bipush 50, 2) := dk_16 50 (dk_at dksX4_tear_0 17 rfl rfl)
theorem dX4_tear_19 : decode cX4_tear 19 = .ok (.invokestatic 362, 3) := dk_184 1 106 (dk_at dksX4_tear_0 19 rfl rfl)
theorem dX4_tear_22 : decode cX4_tear 22 = .ok (.ifCond .eq 12, 3) := dk_153 0 12 (dk_at dksX4_tear_1 0 rfl rfl)
theorem dX4_tear_25 : decode cX4_tear 25 = .ok (.aload_n 0, 1) := dk_42 (dk_at dksX4_tear_1 3 rfl rfl)
theorem dX4_tear_26 : decode cX4_tear 26 = .ok (.iconst 0, 1) := dk_3 (dk_at dksX4_tear_1 4 rfl rfl)
theorem dX4_tear_27 : decode cX4_tear 27 = .ok (.iload_n 1, 1) := dk_27 (dk_at dksX4_tear_1 5 rfl rfl)
theorem dX4_tear_28 : decode cX4_tear 28 = .ok (.invokevirtual 326, 3) := dk_182 1 70 (dk_at dksX4_tear_1 6 rfl rfl)
theorem dX4_tear_31 : decode cX4_tear 31 = .ok (.ifCond .eq 9, 3) := dk_153 0 9 (dk_at dksX4_tear_1 9 rfl rfl)
theorem dX4_tear_34 : decode cX4_tear 34 = .ok (.aload_n 0, 1) := dk_42 (dk_at dksX4_tear_1 12 rfl rfl)
theorem dX4_tear_35 : decode cX4_tear 35 = .ok (.iconst 1, 1) := dk_4 (dk_at dksX4_tear_1 13 rfl rfl)
theorem dX4_tear_36 : decode cX4_tear 36 = .ok (.invokevirtual 384, 3) := dk_182 1 128 (dk_at dksX4_tear_1 14 rfl rfl)
theorem dX4_tear_39 : decode cX4_tear 39 = .ok (.ireturn, 1) := dk_172 (dk_at dksX4_tear_1 17 rfl rfl)
theorem dX4_tear_40 : decode cX4_tear 40 = .ok (.aload_n 0, 1) := dk_42 (dk_at dksX4_tear_1 18 rfl rfl)
theorem dX4_tear_41 : decode cX4_tear 41 = .ok (.invokevirtual 387, 3) := dk_182 1 131 (dk_at dksX4_tear_1 19 rfl rfl)
theorem dX4_tear_44 : decode cX4_tear 44 = .ok (.aload_n 0, 1) := dk_42 (dk_at dksX4_tear_1 22 rfl rfl)
theorem dX4_tear_45 : decode cX4_tear 45 = .ok (.iconst 0, 1) := dk_3 (dk_at dksX4_tear_1 23 rfl rfl)
theorem dX4_tear_46 : decode cX4_tear 46 = .ok (.iload_n 1, 1) := dk_27 (dk_at dksX4_tear_2 0 rfl rfl)
theorem dX4_tear_47 : decode cX4_tear 47 = .ok (.iload_n 2, 1) := dk_28 (dk_at dksX4_tear_2 1 rfl rfl)
theorem dX4_tear_48 : decode cX4_tear 48 = .ok (.invokevirtual 349, 3) := dk_182 1 93 (dk_at dksX4_tear_2 2 rfl rfl)
theorem dX4_tear_51 : decode cX4_tear 51 = .ok (.aload_n 0, 1) := dk_42 (dk_at dksX4_tear_2 5 rfl rfl)
theorem dX4_tear_52 : decode cX4_tear 52 = .ok (.getfield 66, 3) := dk_180 0 66 (dk_at dksX4_tear_2 6 rfl rfl)
theorem dX4_tear_55 : decode cX4_tear 55 = .ok (.bipush 13, 2) := dk_16 13 (dk_at dksX4_tear_2 9 rfl rfl)
theorem dX4_tear_57 : decode cX4_tear 57 = .ok (.iload_n 1, 1) := dk_27 (dk_at dksX4_tear_2 11 rfl rfl)
theorem dX4_tear_58 : decode cX4_tear 58 = .ok (.iadd, 1) := dk_96 (dk_at dksX4_tear_2 12 rfl rfl)
theorem dX4_tear_59 : decode cX4_tear 59 = .ok (.iaload, 1) := dk_46 (dk_at dksX4_tear_2 13 rfl rfl)
theorem dX4_tear_60 : decode cX4_tear 60 = .ok (.ireturn, 1) := dk_172 (dk_at dksX4_tear_2 14 rfl rfl)
abbrev cX4_daysGo : ByteArray := prog_12_method_61_code
def yX4_daysGo : MethodName := ⟨RX4, "daysGo", "(I)V"⟩
def dkwX4_daysGo_0 : List UInt8 := [3, 61, 28, 27, 162, 0, 15, 42, 16, 49, 182, 1, 103, 132, 2, 1, 167, 255, 242, 177]
abbrev dktX4_daysGo_0 : List UInt8 := dkwX4_daysGo_0 ++ []
theorem dksX4_daysGo_0 : cX4_daysGo.data.toList.drop 0 = dktX4_daysGo_0 := by decide +kernel
theorem dX4_daysGo_0 : decode cX4_daysGo 0 = .ok (.iconst 0, 1) := dk_3 (dk_at dksX4_daysGo_0 0 rfl rfl)
theorem dX4_daysGo_1 : decode cX4_daysGo 1 = .ok (.istore_n 2, 1) := dk_61 (dk_at dksX4_daysGo_0 1 rfl rfl)
theorem dX4_daysGo_2 : decode cX4_daysGo 2 = .ok (.iload_n 2, 1) := dk_28 (dk_at dksX4_daysGo_0 2 rfl rfl)
theorem dX4_daysGo_3 : decode cX4_daysGo 3 = .ok (.iload_n 1, 1) := dk_27 (dk_at dksX4_daysGo_0 3 rfl rfl)
theorem dX4_daysGo_4 : decode cX4_daysGo 4 = .ok (.if_icmp .ge 15, 3) := dk_162 0 15 (dk_at dksX4_daysGo_0 4 rfl rfl)
theorem dX4_daysGo_7 : decode cX4_daysGo 7 = .ok (.aload_n 0, 1) := dk_42 (dk_at dksX4_daysGo_0 7 rfl rfl)
theorem dX4_daysGo_8 : decode cX4_daysGo 8 = .ok (.bipush 49, 2) := dk_16 49 (dk_at dksX4_daysGo_0 8 rfl rfl)
theorem dX4_daysGo_10 : decode cX4_daysGo 10 = .ok (.invokevirtual 359, 3) := dk_182 1 103 (dk_at dksX4_daysGo_0 10 rfl rfl)
theorem dX4_daysGo_13 : decode cX4_daysGo 13 = .ok (.iinc 2 1, 3) := dk_132 2 1 (dk_at dksX4_daysGo_0 13 rfl rfl)
theorem dX4_daysGo_16 : decode cX4_daysGo 16 = .ok (.goto (-14), 3) := dk_167 255 242 (dk_at dksX4_daysGo_0 16 rfl rfl)
theorem dX4_daysGo_19 : decode cX4_daysGo 19 = .ok (.return_, 1) := dk_177 (dk_at dksX4_daysGo_0 19 rfl rfl)
abbrev cX4_tries : ByteArray := prog_12_method_45_code
def yX4_tries : MethodName := ⟨RX4, "tries", "()V"⟩
def dkwX4_tries_1 : List UInt8 := [132, 1, 1, 167, 255, 232, 177]
abbrev dktX4_tries_1 : List UInt8 := dkwX4_tries_1 ++ []
def dkwX4_tries_0 : List UInt8 := [3, 60, 27, 16, 49, 162, 0, 24, 42, 180, 0, 66, 16, 49, 27, 96, 42, 180, 0, 66, 27, 46, 79]
abbrev dktX4_tries_0 : List UInt8 := dkwX4_tries_0 ++ dktX4_tries_1
theorem dksX4_tries_0 : cX4_tries.data.toList.drop 0 = dktX4_tries_0 := by decide +kernel
theorem dksX4_tries_1 : cX4_tries.data.toList.drop 23 = dktX4_tries_1 := dk_seg dksX4_tries_0 23 rfl rfl
theorem dX4_tries_0 : decode cX4_tries 0 = .ok (.iconst 0, 1) := dk_3 (dk_at dksX4_tries_0 0 rfl rfl)
theorem dX4_tries_1 : decode cX4_tries 1 = .ok (.istore_n 1, 1) := dk_60 (dk_at dksX4_tries_0 1 rfl rfl)
theorem dX4_tries_2 : decode cX4_tries 2 = .ok (.iload_n 1, 1) := dk_27 (dk_at dksX4_tries_0 2 rfl rfl)
theorem dX4_tries_3 : decode cX4_tries 3 = .ok (.bipush 49, 2) := dk_16 49 (dk_at dksX4_tries_0 3 rfl rfl)
theorem dX4_tries_5 : decode cX4_tries 5 = .ok (.if_icmp .ge 24, 3) := dk_162 0 24 (dk_at dksX4_tries_0 5 rfl rfl)
theorem dX4_tries_8 : decode cX4_tries 8 = .ok (.aload_n 0, 1) := dk_42 (dk_at dksX4_tries_0 8 rfl rfl)
theorem dX4_tries_9 : decode cX4_tries 9 = .ok (.getfield 66, 3) := dk_180 0 66 (dk_at dksX4_tries_0 9 rfl rfl)
theorem dX4_tries_12 : decode cX4_tries 12 = .ok (.bipush 49, 2) := dk_16 49 (dk_at dksX4_tries_0 12 rfl rfl)
theorem dX4_tries_14 : decode cX4_tries 14 = .ok (.iload_n 1, 1) := dk_27 (dk_at dksX4_tries_0 14 rfl rfl)
theorem dX4_tries_15 : decode cX4_tries 15 = .ok (.iadd, 1) := dk_96 (dk_at dksX4_tries_0 15 rfl rfl)
theorem dX4_tries_16 : decode cX4_tries 16 = .ok (.aload_n 0, 1) := dk_42 (dk_at dksX4_tries_0 16 rfl rfl)
theorem dX4_tries_17 : decode cX4_tries 17 = .ok (.getfield 66, 3) := dk_180 0 66 (dk_at dksX4_tries_0 17 rfl rfl)
theorem dX4_tries_20 : decode cX4_tries 20 = .ok (.iload_n 1, 1) := dk_27 (dk_at dksX4_tries_0 20 rfl rfl)
theorem dX4_tries_21 : decode cX4_tries 21 = .ok (.iaload, 1) := dk_46 (dk_at dksX4_tries_0 21 rfl rfl)
theorem dX4_tries_22 : decode cX4_tries 22 = .ok (.iastore, 1) := dk_79 (dk_at dksX4_tries_0 22 rfl rfl)
theorem dX4_tries_23 : decode cX4_tries 23 = .ok (.iinc 1 1, 3) := dk_132 1 1 (dk_at dksX4_tries_1 0 rfl rfl)
theorem dX4_tries_26 : decode cX4_tries 26 = .ok (.goto (-24), 3) := dk_167 255 232 (dk_at dksX4_tries_1 3 rfl rfl)
theorem dX4_tries_29 : decode cX4_tries 29 = .ok (.return_, 1) := dk_177 (dk_at dksX4_tries_1 6 rfl rfl)
abbrev cX4_goesTo : ByteArray := prog_12_method_78_code
def yX4_goesTo : MethodName := ⟨RX4, "goesTo", "(I)V"⟩
def dkwX4_goesTo_0 : List UInt8 := [42, 182, 1, 134, 42, 27, 182, 1, 137, 177]
abbrev dktX4_goesTo_0 : List UInt8 := dkwX4_goesTo_0 ++ []
theorem dksX4_goesTo_0 : cX4_goesTo.data.toList.drop 0 = dktX4_goesTo_0 := by decide +kernel
theorem dX4_goesTo_0 : decode cX4_goesTo 0 = .ok (.aload_n 0, 1) := dk_42 (dk_at dksX4_goesTo_0 0 rfl rfl)
theorem dX4_goesTo_1 : decode cX4_goesTo 1 = .ok (.invokevirtual 390, 3) := dk_182 1 134 (dk_at dksX4_goesTo_0 1 rfl rfl)
theorem dX4_goesTo_4 : decode cX4_goesTo 4 = .ok (.aload_n 0, 1) := dk_42 (dk_at dksX4_goesTo_0 4 rfl rfl)
theorem dX4_goesTo_5 : decode cX4_goesTo 5 = .ok (.iload_n 1, 1) := dk_27 (dk_at dksX4_goesTo_0 5 rfl rfl)
theorem dX4_goesTo_6 : decode cX4_goesTo 6 = .ok (.invokevirtual 393, 3) := dk_182 1 137 (dk_at dksX4_goesTo_0 6 rfl rfl)
theorem dX4_goesTo_9 : decode cX4_goesTo 9 = .ok (.return_, 1) := dk_177 (dk_at dksX4_goesTo_0 9 rfl rfl)
abbrev cX4_isDays : ByteArray := prog_12_method_69_code
def yX4_isDays : MethodName := ⟨RX4, "isDays", "(III)Z"⟩
def dkwX4_isDays_0 : List UInt8 := [42, 27, 28, 16, 60, 184, 1, 106, 29, 182, 1, 21, 172]
abbrev dktX4_isDays_0 : List UInt8 := dkwX4_isDays_0 ++ []
theorem dksX4_isDays_0 : cX4_isDays.data.toList.drop 0 = dktX4_isDays_0 := by decide +kernel
theorem dX4_isDays_0 : decode cX4_isDays 0 = .ok (.aload_n 0, 1) := dk_42 (dk_at dksX4_isDays_0 0 rfl rfl)
theorem dX4_isDays_1 : decode cX4_isDays 1 = .ok (.iload_n 1, 1) := dk_27 (dk_at dksX4_isDays_0 1 rfl rfl)
theorem dX4_isDays_2 : decode cX4_isDays 2 = .ok (.iload_n 2, 1) := dk_28 (dk_at dksX4_isDays_0 2 rfl rfl)
theorem dX4_isDays_3 : decode cX4_isDays 3 = .ok (.bipush 60, 2) := dk_16 60 (dk_at dksX4_isDays_0 3 rfl rfl)
theorem dX4_isDays_5 : decode cX4_isDays 5 = .ok (.invokestatic 362, 3) := dk_184 1 106 (dk_at dksX4_isDays_0 5 rfl rfl)
theorem dX4_isDays_8 : decode cX4_isDays 8 = .ok (.iload_n 3, 1) := dk_29 (dk_at dksX4_isDays_0 8 rfl rfl)
theorem dX4_isDays_9 : decode cX4_isDays 9 = .ok (.invokevirtual 277, 3) := dk_182 1 21 (dk_at dksX4_isDays_0 9 rfl rfl)
theorem dX4_isDays_12 : decode cX4_isDays 12 = .ok (.ireturn, 1) := dk_172 (dk_at dksX4_isDays_0 12 rfl rfl)
abbrev cX4_then : ByteArray := prog_12_method_79_code
def yX4_then : MethodName := ⟨RX4, "then", "(III)I"⟩
def dkwX4_then_2 : List UInt8 := [154, 0, 7, 4, 167, 0, 5, 16, 13, 96, 27, 96, 46, 172]
abbrev dktX4_then_2 : List UInt8 := dkwX4_then_2 ++ []
def dkwX4_then_1 : List UInt8 := [3, 5, 182, 1, 140, 154, 0, 5, 3, 172, 42, 28, 182, 1, 143, 42, 180, 0, 66, 16, 49, 29]
abbrev dktX4_then_1 : List UInt8 := dkwX4_then_1 ++ dktX4_then_2
def dkwX4_then_0 : List UInt8 := [42, 3, 181, 0, 117, 42, 27, 182, 1, 119, 153, 0, 22, 42, 29, 4, 182, 1, 122, 153, 0, 13, 42, 28]
abbrev dktX4_then_0 : List UInt8 := dkwX4_then_0 ++ dktX4_then_1
theorem dksX4_then_0 : cX4_then.data.toList.drop 0 = dktX4_then_0 := by decide +kernel
theorem dksX4_then_1 : cX4_then.data.toList.drop 24 = dktX4_then_1 := dk_seg dksX4_then_0 24 rfl rfl
theorem dksX4_then_2 : cX4_then.data.toList.drop 46 = dktX4_then_2 := dk_seg dksX4_then_1 22 rfl rfl
theorem dX4_then_0 : decode cX4_then 0 = .ok (.aload_n 0, 1) := dk_42 (dk_at dksX4_then_0 0 rfl rfl)
theorem dX4_then_1 : decode cX4_then 1 = .ok (.iconst 0, 1) := dk_3 (dk_at dksX4_then_0 1 rfl rfl)
theorem dX4_then_2 : decode cX4_then 2 = .ok (.putfield 117, 3) := dk_181 0 117 (dk_at dksX4_then_0 2 rfl rfl)
theorem dX4_then_5 : decode cX4_then 5 = .ok (.aload_n 0, 1) := dk_42 (dk_at dksX4_then_0 5 rfl rfl)
theorem dX4_then_6 : decode cX4_then 6 = .ok (.iload_n 1, 1) := dk_27 (dk_at dksX4_then_0 6 rfl rfl)
theorem dX4_then_7 : decode cX4_then 7 = .ok (.invokevirtual 375, 3) := dk_182 1 119 (dk_at dksX4_then_0 7 rfl rfl)
theorem dX4_then_10 : decode cX4_then 10 = .ok (.ifCond .eq 22, 3) := dk_153 0 22 (dk_at dksX4_then_0 10 rfl rfl)
theorem dX4_then_13 : decode cX4_then 13 = .ok (.aload_n 0, 1) := dk_42 (dk_at dksX4_then_0 13 rfl rfl)
theorem dX4_then_14 : decode cX4_then 14 = .ok (.iload_n 3, 1) := dk_29 (dk_at dksX4_then_0 14 rfl rfl)
theorem dX4_then_15 : decode cX4_then 15 = .ok (.iconst 1, 1) := dk_4 (dk_at dksX4_then_0 15 rfl rfl)
theorem dX4_then_16 : decode cX4_then 16 = .ok (.invokevirtual 378, 3) := dk_182 1 122 (dk_at dksX4_then_0 16 rfl rfl)
theorem dX4_then_19 : decode cX4_then 19 = .ok (.ifCond .eq 13, 3) := dk_153 0 13 (dk_at dksX4_then_0 19 rfl rfl)
theorem dX4_then_22 : decode cX4_then 22 = .ok (.aload_n 0, 1) := dk_42 (dk_at dksX4_then_0 22 rfl rfl)
theorem dX4_then_23 : decode cX4_then 23 = .ok (.iload_n 2, 1) := dk_28 (dk_at dksX4_then_0 23 rfl rfl)
theorem dX4_then_24 : decode cX4_then 24 = .ok (.iconst 0, 1) := dk_3 (dk_at dksX4_then_1 0 rfl rfl)
theorem dX4_then_25 : decode cX4_then 25 = .ok (.iconst 2, 1) := dk_5 (dk_at dksX4_then_1 1 rfl rfl)
theorem dX4_then_26 : decode cX4_then 26 = .ok (.invokevirtual 396, 3) := dk_182 1 140 (dk_at dksX4_then_1 2 rfl rfl)
theorem dX4_then_29 : decode cX4_then 29 = .ok (.ifCond .ne 5, 3) := dk_154 0 5 (dk_at dksX4_then_1 5 rfl rfl)
theorem dX4_then_32 : decode cX4_then 32 = .ok (.iconst 0, 1) := dk_3 (dk_at dksX4_then_1 8 rfl rfl)
theorem dX4_then_33 : decode cX4_then 33 = .ok (.ireturn, 1) := dk_172 (dk_at dksX4_then_1 9 rfl rfl)
theorem dX4_then_34 : decode cX4_then 34 = .ok (.aload_n 0, 1) := dk_42 (dk_at dksX4_then_1 10 rfl rfl)
theorem dX4_then_35 : decode cX4_then 35 = .ok (.iload_n 2, 1) := dk_28 (dk_at dksX4_then_1 11 rfl rfl)
theorem dX4_then_36 : decode cX4_then 36 = .ok (.invokevirtual 399, 3) := dk_182 1 143 (dk_at dksX4_then_1 12 rfl rfl)
theorem dX4_then_39 : decode cX4_then 39 = .ok (.aload_n 0, 1) := dk_42 (dk_at dksX4_then_1 15 rfl rfl)
theorem dX4_then_40 : decode cX4_then 40 = .ok (.getfield 66, 3) := dk_180 0 66 (dk_at dksX4_then_1 16 rfl rfl)
theorem dX4_then_43 : decode cX4_then 43 = .ok (.bipush 49, 2) := dk_16 49 (dk_at dksX4_then_1 19 rfl rfl)
theorem dX4_then_45 : decode cX4_then 45 = .ok (.iload_n 3, 1) := dk_29 (dk_at dksX4_then_1 21 rfl rfl)
theorem dX4_then_46 : decode cX4_then 46 = .ok (.ifCond .ne 7, 3) := dk_154 0 7 (dk_at dksX4_then_2 0 rfl rfl)
theorem dX4_then_49 : decode cX4_then 49 = .ok (.iconst 1, 1) := dk_4 (dk_at dksX4_then_2 3 rfl rfl)
theorem dX4_then_50 : decode cX4_then 50 = .ok (.goto 5, 3) := dk_167 0 5 (dk_at dksX4_then_2 4 rfl rfl)
theorem dX4_then_53 : decode cX4_then 53 = .ok (.bipush 13, 2) := dk_16 13 (dk_at dksX4_then_2 7 rfl rfl)
theorem dX4_then_55 : decode cX4_then 55 = .ok (.iadd, 1) := dk_96 (dk_at dksX4_then_2 9 rfl rfl)
theorem dX4_then_56 : decode cX4_then 56 = .ok (.iload_n 1, 1) := dk_27 (dk_at dksX4_then_2 10 rfl rfl)
theorem dX4_then_57 : decode cX4_then 57 = .ok (.iadd, 1) := dk_96 (dk_at dksX4_then_2 11 rfl rfl)
theorem dX4_then_58 : decode cX4_then 58 = .ok (.iaload, 1) := dk_46 (dk_at dksX4_then_2 12 rfl rfl)
theorem dX4_then_59 : decode cX4_then 59 = .ok (.ireturn, 1) := dk_172 (dk_at dksX4_then_2 13 rfl rfl)
abbrev cX4_extreme : ByteArray := prog_12_method_80_code
def yX4_extreme : MethodName := ⟨RX4, "extreme", "(IZ)I"⟩
def dkwX4_extreme_3 : List UInt8 := [21, 4, 62, 132, 4, 1, 167, 255, 186, 29, 172]
abbrev dktX4_extreme_3 : List UInt8 := dkwX4_extreme_3 ++ []
def dkwX4_extreme_2 : List UInt8 := [180, 0, 66, 27, 4, 96, 21, 4, 96, 46, 42, 180, 0, 66, 27, 4, 96, 29, 96, 46, 162, 0, 6]
abbrev dktX4_extreme_2 : List UInt8 := dkwX4_extreme_2 ++ dktX4_extreme_3
def dkwX4_extreme_1 : List UInt8 := [96, 21, 4, 96, 46, 42, 180, 0, 66, 27, 4, 96, 29, 96, 46, 164, 0, 33, 167, 0, 27, 42]
abbrev dktX4_extreme_1 : List UInt8 := dkwX4_extreme_1 ++ dktX4_extreme_2
def dkwX4_extreme_0 : List UInt8 := [3, 62, 4, 54, 4, 21, 4, 42, 180, 0, 7, 162, 0, 67, 28, 153, 0, 30, 42, 180, 0, 66, 27, 4]
abbrev dktX4_extreme_0 : List UInt8 := dkwX4_extreme_0 ++ dktX4_extreme_1
theorem dksX4_extreme_0 : cX4_extreme.data.toList.drop 0 = dktX4_extreme_0 := by decide +kernel
theorem dksX4_extreme_1 : cX4_extreme.data.toList.drop 24 = dktX4_extreme_1 := dk_seg dksX4_extreme_0 24 rfl rfl
theorem dksX4_extreme_2 : cX4_extreme.data.toList.drop 46 = dktX4_extreme_2 := dk_seg dksX4_extreme_1 22 rfl rfl
theorem dksX4_extreme_3 : cX4_extreme.data.toList.drop 69 = dktX4_extreme_3 := dk_seg dksX4_extreme_2 23 rfl rfl
theorem dX4_extreme_0 : decode cX4_extreme 0 = .ok (.iconst 0, 1) := dk_3 (dk_at dksX4_extreme_0 0 rfl rfl)
theorem dX4_extreme_1 : decode cX4_extreme 1 = .ok (.istore_n 3, 1) := dk_62 (dk_at dksX4_extreme_0 1 rfl rfl)
theorem dX4_extreme_2 : decode cX4_extreme 2 = .ok (.iconst 1, 1) := dk_4 (dk_at dksX4_extreme_0 2 rfl rfl)
theorem dX4_extreme_3 : decode cX4_extreme 3 = .ok (.istore 4, 2) := dk_54 4 (dk_at dksX4_extreme_0 3 rfl rfl)
theorem dX4_extreme_5 : decode cX4_extreme 5 = .ok (.iload 4, 2) := dk_21 4 (dk_at dksX4_extreme_0 5 rfl rfl)
theorem dX4_extreme_7 : decode cX4_extreme 7 = .ok (.aload_n 0, 1) := dk_42 (dk_at dksX4_extreme_0 7 rfl rfl)
theorem dX4_extreme_8 : decode cX4_extreme 8 = .ok (.getfield 7, 3) := dk_180 0 7 (dk_at dksX4_extreme_0 8 rfl rfl)
theorem dX4_extreme_11 : decode cX4_extreme 11 = .ok (.if_icmp .ge 67, 3) := dk_162 0 67 (dk_at dksX4_extreme_0 11 rfl rfl)
theorem dX4_extreme_14 : decode cX4_extreme 14 = .ok (.iload_n 2, 1) := dk_28 (dk_at dksX4_extreme_0 14 rfl rfl)
theorem dX4_extreme_15 : decode cX4_extreme 15 = .ok (.ifCond .eq 30, 3) := dk_153 0 30 (dk_at dksX4_extreme_0 15 rfl rfl)
theorem dX4_extreme_18 : decode cX4_extreme 18 = .ok (.aload_n 0, 1) := dk_42 (dk_at dksX4_extreme_0 18 rfl rfl)
theorem dX4_extreme_19 : decode cX4_extreme 19 = .ok (.getfield 66, 3) := dk_180 0 66 (dk_at dksX4_extreme_0 19 rfl rfl)
theorem dX4_extreme_22 : decode cX4_extreme 22 = .ok (.iload_n 1, 1) := dk_27 (dk_at dksX4_extreme_0 22 rfl rfl)
theorem dX4_extreme_23 : decode cX4_extreme 23 = .ok (.iconst 1, 1) := dk_4 (dk_at dksX4_extreme_0 23 rfl rfl)
theorem dX4_extreme_24 : decode cX4_extreme 24 = .ok (.iadd, 1) := dk_96 (dk_at dksX4_extreme_1 0 rfl rfl)
theorem dX4_extreme_25 : decode cX4_extreme 25 = .ok (.iload 4, 2) := dk_21 4 (dk_at dksX4_extreme_1 1 rfl rfl)
theorem dX4_extreme_27 : decode cX4_extreme 27 = .ok (.iadd, 1) := dk_96 (dk_at dksX4_extreme_1 3 rfl rfl)
theorem dX4_extreme_28 : decode cX4_extreme 28 = .ok (.iaload, 1) := dk_46 (dk_at dksX4_extreme_1 4 rfl rfl)
theorem dX4_extreme_29 : decode cX4_extreme 29 = .ok (.aload_n 0, 1) := dk_42 (dk_at dksX4_extreme_1 5 rfl rfl)
theorem dX4_extreme_30 : decode cX4_extreme 30 = .ok (.getfield 66, 3) := dk_180 0 66 (dk_at dksX4_extreme_1 6 rfl rfl)
theorem dX4_extreme_33 : decode cX4_extreme 33 = .ok (.iload_n 1, 1) := dk_27 (dk_at dksX4_extreme_1 9 rfl rfl)
theorem dX4_extreme_34 : decode cX4_extreme 34 = .ok (.iconst 1, 1) := dk_4 (dk_at dksX4_extreme_1 10 rfl rfl)
theorem dX4_extreme_35 : decode cX4_extreme 35 = .ok (.iadd, 1) := dk_96 (dk_at dksX4_extreme_1 11 rfl rfl)
theorem dX4_extreme_36 : decode cX4_extreme 36 = .ok (.iload_n 3, 1) := dk_29 (dk_at dksX4_extreme_1 12 rfl rfl)
theorem dX4_extreme_37 : decode cX4_extreme 37 = .ok (.iadd, 1) := dk_96 (dk_at dksX4_extreme_1 13 rfl rfl)
theorem dX4_extreme_38 : decode cX4_extreme 38 = .ok (.iaload, 1) := dk_46 (dk_at dksX4_extreme_1 14 rfl rfl)
theorem dX4_extreme_39 : decode cX4_extreme 39 = .ok (.if_icmp .le 33, 3) := dk_164 0 33 (dk_at dksX4_extreme_1 15 rfl rfl)
theorem dX4_extreme_42 : decode cX4_extreme 42 = .ok (.goto 27, 3) := dk_167 0 27 (dk_at dksX4_extreme_1 18 rfl rfl)
theorem dX4_extreme_45 : decode cX4_extreme 45 = .ok (.aload_n 0, 1) := dk_42 (dk_at dksX4_extreme_1 21 rfl rfl)
theorem dX4_extreme_46 : decode cX4_extreme 46 = .ok (.getfield 66, 3) := dk_180 0 66 (dk_at dksX4_extreme_2 0 rfl rfl)
theorem dX4_extreme_49 : decode cX4_extreme 49 = .ok (.iload_n 1, 1) := dk_27 (dk_at dksX4_extreme_2 3 rfl rfl)
theorem dX4_extreme_50 : decode cX4_extreme 50 = .ok (.iconst 1, 1) := dk_4 (dk_at dksX4_extreme_2 4 rfl rfl)
theorem dX4_extreme_51 : decode cX4_extreme 51 = .ok (.iadd, 1) := dk_96 (dk_at dksX4_extreme_2 5 rfl rfl)
theorem dX4_extreme_52 : decode cX4_extreme 52 = .ok (.iload 4, 2) := dk_21 4 (dk_at dksX4_extreme_2 6 rfl rfl)
theorem dX4_extreme_54 : decode cX4_extreme 54 = .ok (.iadd, 1) := dk_96 (dk_at dksX4_extreme_2 8 rfl rfl)
theorem dX4_extreme_55 : decode cX4_extreme 55 = .ok (.iaload, 1) := dk_46 (dk_at dksX4_extreme_2 9 rfl rfl)
theorem dX4_extreme_56 : decode cX4_extreme 56 = .ok (.aload_n 0, 1) := dk_42 (dk_at dksX4_extreme_2 10 rfl rfl)
theorem dX4_extreme_57 : decode cX4_extreme 57 = .ok (.getfield 66, 3) := dk_180 0 66 (dk_at dksX4_extreme_2 11 rfl rfl)
theorem dX4_extreme_60 : decode cX4_extreme 60 = .ok (.iload_n 1, 1) := dk_27 (dk_at dksX4_extreme_2 14 rfl rfl)
theorem dX4_extreme_61 : decode cX4_extreme 61 = .ok (.iconst 1, 1) := dk_4 (dk_at dksX4_extreme_2 15 rfl rfl)
theorem dX4_extreme_62 : decode cX4_extreme 62 = .ok (.iadd, 1) := dk_96 (dk_at dksX4_extreme_2 16 rfl rfl)
theorem dX4_extreme_63 : decode cX4_extreme 63 = .ok (.iload_n 3, 1) := dk_29 (dk_at dksX4_extreme_2 17 rfl rfl)
theorem dX4_extreme_64 : decode cX4_extreme 64 = .ok (.iadd, 1) := dk_96 (dk_at dksX4_extreme_2 18 rfl rfl)
theorem dX4_extreme_65 : decode cX4_extreme 65 = .ok (.iaload, 1) := dk_46 (dk_at dksX4_extreme_2 19 rfl rfl)
theorem dX4_extreme_66 : decode cX4_extreme 66 = .ok (.if_icmp .ge 6, 3) := dk_162 0 6 (dk_at dksX4_extreme_2 20 rfl rfl)
theorem dX4_extreme_69 : decode cX4_extreme 69 = .ok (.iload 4, 2) := dk_21 4 (dk_at dksX4_extreme_3 0 rfl rfl)
theorem dX4_extreme_71 : decode cX4_extreme 71 = .ok (.istore_n 3, 1) := dk_62 (dk_at dksX4_extreme_3 2 rfl rfl)
theorem dX4_extreme_72 : decode cX4_extreme 72 = .ok (.iinc 4 1, 3) := dk_132 4 1 (dk_at dksX4_extreme_3 3 rfl rfl)
theorem dX4_extreme_75 : decode cX4_extreme 75 = .ok (.goto (-70), 3) := dk_167 255 186 (dk_at dksX4_extreme_3 6 rfl rfl)
theorem dX4_extreme_78 : decode cX4_extreme 78 = .ok (.iload_n 3, 1) := dk_29 (dk_at dksX4_extreme_3 9 rfl rfl)
theorem dX4_extreme_79 : decode cX4_extreme 79 = .ok (.ireturn, 1) := dk_172 (dk_at dksX4_extreme_3 10 rfl rfl)
abbrev cX4_later : ByteArray := prog_12_method_81_code
def yX4_later : MethodName := ⟨RX4, "later", "(II)I"⟩
def dkwX4_later_5 : List UInt8 := [3, 16, 43, 42, 180, 1, 28, 182, 1, 113, 42, 16, 49, 16, 43, 42, 180, 1, 28, 182, 1, 113, 100, 172]
abbrev dktX4_later_5 : List UInt8 := dkwX4_later_5 ++ []
def dkwX4_later_4 : List UInt8 := [4, 182, 1, 146, 96, 46, 42, 180, 0, 66, 16, 50, 42, 16, 49, 3, 182, 1, 146, 96, 46, 100, 172, 42]
abbrev dktX4_later_4 : List UInt8 := dkwX4_later_4 ++ dktX4_later_5
def dkwX4_later_3 : List UInt8 := [42, 16, 49, 182, 1, 110, 172, 42, 16, 49, 4, 182, 1, 146, 172, 42, 180, 0, 66, 16, 50, 42, 16, 49]
abbrev dktX4_later_3 : List UInt8 := dkwX4_later_3 ++ dktX4_later_4
def dkwX4_later_2 : List UInt8 := [170, 0, 0, 0, 0, 0, 0, 75, 0, 0, 0, 0, 0, 0, 0, 2, 0, 0, 0, 28, 0, 0, 0, 35, 0, 0, 0, 43]
abbrev dktX4_later_2 : List UInt8 := dkwX4_later_2 ++ dktX4_later_3
def dkwX4_later_1 : List UInt8 := [3, 172, 42, 27, 182, 1, 143, 28]
abbrev dktX4_later_1 : List UInt8 := dkwX4_later_1 ++ dktX4_later_2
def dkwX4_later_0 : List UInt8 := [42, 3, 181, 0, 117, 42, 28, 6, 182, 1, 122, 153, 0, 13, 42, 27, 3, 5, 182, 1, 140, 154, 0, 5]
abbrev dktX4_later_0 : List UInt8 := dkwX4_later_0 ++ dktX4_later_1
theorem dksX4_later_0 : cX4_later.data.toList.drop 0 = dktX4_later_0 := by decide +kernel
theorem dksX4_later_1 : cX4_later.data.toList.drop 24 = dktX4_later_1 := dk_seg dksX4_later_0 24 rfl rfl
theorem dksX4_later_2 : cX4_later.data.toList.drop 32 = dktX4_later_2 := dk_seg dksX4_later_1 8 rfl rfl
theorem dksX4_later_3 : cX4_later.data.toList.drop 60 = dktX4_later_3 := dk_seg dksX4_later_2 28 rfl rfl
theorem dksX4_later_4 : cX4_later.data.toList.drop 84 = dktX4_later_4 := dk_seg dksX4_later_3 24 rfl rfl
theorem dksX4_later_5 : cX4_later.data.toList.drop 108 = dktX4_later_5 := dk_seg dksX4_later_4 24 rfl rfl
theorem dX4_later_0 : decode cX4_later 0 = .ok (.aload_n 0, 1) := dk_42 (dk_at dksX4_later_0 0 rfl rfl)
theorem dX4_later_1 : decode cX4_later 1 = .ok (.iconst 0, 1) := dk_3 (dk_at dksX4_later_0 1 rfl rfl)
theorem dX4_later_2 : decode cX4_later 2 = .ok (.putfield 117, 3) := dk_181 0 117 (dk_at dksX4_later_0 2 rfl rfl)
theorem dX4_later_5 : decode cX4_later 5 = .ok (.aload_n 0, 1) := dk_42 (dk_at dksX4_later_0 5 rfl rfl)
theorem dX4_later_6 : decode cX4_later 6 = .ok (.iload_n 2, 1) := dk_28 (dk_at dksX4_later_0 6 rfl rfl)
theorem dX4_later_7 : decode cX4_later 7 = .ok (.iconst 3, 1) := dk_6 (dk_at dksX4_later_0 7 rfl rfl)
theorem dX4_later_8 : decode cX4_later 8 = .ok (.invokevirtual 378, 3) := dk_182 1 122 (dk_at dksX4_later_0 8 rfl rfl)
theorem dX4_later_11 : decode cX4_later 11 = .ok (.ifCond .eq 13, 3) := dk_153 0 13 (dk_at dksX4_later_0 11 rfl rfl)
theorem dX4_later_14 : decode cX4_later 14 = .ok (.aload_n 0, 1) := dk_42 (dk_at dksX4_later_0 14 rfl rfl)
theorem dX4_later_15 : decode cX4_later 15 = .ok (.iload_n 1, 1) := dk_27 (dk_at dksX4_later_0 15 rfl rfl)
theorem dX4_later_16 : decode cX4_later 16 = .ok (.iconst 0, 1) := dk_3 (dk_at dksX4_later_0 16 rfl rfl)
theorem dX4_later_17 : decode cX4_later 17 = .ok (.iconst 2, 1) := dk_5 (dk_at dksX4_later_0 17 rfl rfl)
theorem dX4_later_18 : decode cX4_later 18 = .ok (.invokevirtual 396, 3) := dk_182 1 140 (dk_at dksX4_later_0 18 rfl rfl)
theorem dX4_later_21 : decode cX4_later 21 = .ok (.ifCond .ne 5, 3) := dk_154 0 5 (dk_at dksX4_later_0 21 rfl rfl)
theorem dX4_later_24 : decode cX4_later 24 = .ok (.iconst 0, 1) := dk_3 (dk_at dksX4_later_1 0 rfl rfl)
theorem dX4_later_25 : decode cX4_later 25 = .ok (.ireturn, 1) := dk_172 (dk_at dksX4_later_1 1 rfl rfl)
theorem dX4_later_26 : decode cX4_later 26 = .ok (.aload_n 0, 1) := dk_42 (dk_at dksX4_later_1 2 rfl rfl)
theorem dX4_later_27 : decode cX4_later 27 = .ok (.iload_n 1, 1) := dk_27 (dk_at dksX4_later_1 3 rfl rfl)
theorem dX4_later_28 : decode cX4_later 28 = .ok (.invokevirtual 399, 3) := dk_182 1 143 (dk_at dksX4_later_1 4 rfl rfl)
theorem dX4_later_31 : decode cX4_later 31 = .ok (.iload_n 2, 1) := dk_28 (dk_at dksX4_later_1 7 rfl rfl)
theorem dX4_later_32 : decode cX4_later 32 = .ok (.tableswitch 75 0 2 #[28, 35, 43], 28) := by decide +kernel
theorem dX4_later_60 : decode cX4_later 60 = .ok (.aload_n 0, 1) := dk_42 (dk_at dksX4_later_3 0 rfl rfl)
theorem dX4_later_61 : decode cX4_later 61 = .ok (.bipush 49, 2) := dk_16 49 (dk_at dksX4_later_3 1 rfl rfl)
theorem dX4_later_63 : decode cX4_later 63 = .ok (.invokevirtual 366, 3) := dk_182 1 110 (dk_at dksX4_later_3 3 rfl rfl)
theorem dX4_later_66 : decode cX4_later 66 = .ok (.ireturn, 1) := dk_172 (dk_at dksX4_later_3 6 rfl rfl)
theorem dX4_later_67 : decode cX4_later 67 = .ok (.aload_n 0, 1) := dk_42 (dk_at dksX4_later_3 7 rfl rfl)
theorem dX4_later_68 : decode cX4_later 68 = .ok (.bipush 49, 2) := dk_16 49 (dk_at dksX4_later_3 8 rfl rfl)
theorem dX4_later_70 : decode cX4_later 70 = .ok (.iconst 1, 1) := dk_4 (dk_at dksX4_later_3 10 rfl rfl)
theorem dX4_later_71 : decode cX4_later 71 = .ok (.invokevirtual 402, 3) := dk_182 1 146 (dk_at dksX4_later_3 11 rfl rfl)
theorem dX4_later_74 : decode cX4_later 74 = .ok (.ireturn, 1) := dk_172 (dk_at dksX4_later_3 14 rfl rfl)
theorem dX4_later_75 : decode cX4_later 75 = .ok (.aload_n 0, 1) := dk_42 (dk_at dksX4_later_3 15 rfl rfl)
theorem dX4_later_76 : decode cX4_later 76 = .ok (.getfield 66, 3) := dk_180 0 66 (dk_at dksX4_later_3 16 rfl rfl)
theorem dX4_later_79 : decode cX4_later 79 = .ok (.bipush 50, 2) := dk_16 50 (dk_at dksX4_later_3 19 rfl rfl)
theorem dX4_later_81 : decode cX4_later 81 = .ok (.aload_n 0, 1) := dk_42 (dk_at dksX4_later_3 21 rfl rfl)
theorem dX4_later_82 : decode cX4_later 82 = .ok (.bipush 49, 2) := dk_16 49 (dk_at dksX4_later_3 22 rfl rfl)
theorem dX4_later_84 : decode cX4_later 84 = .ok (.iconst 1, 1) := dk_4 (dk_at dksX4_later_4 0 rfl rfl)
theorem dX4_later_85 : decode cX4_later 85 = .ok (.invokevirtual 402, 3) := dk_182 1 146 (dk_at dksX4_later_4 1 rfl rfl)
theorem dX4_later_88 : decode cX4_later 88 = .ok (.iadd, 1) := dk_96 (dk_at dksX4_later_4 4 rfl rfl)
theorem dX4_later_89 : decode cX4_later 89 = .ok (.iaload, 1) := dk_46 (dk_at dksX4_later_4 5 rfl rfl)
theorem dX4_later_90 : decode cX4_later 90 = .ok (.aload_n 0, 1) := dk_42 (dk_at dksX4_later_4 6 rfl rfl)
theorem dX4_later_91 : decode cX4_later 91 = .ok (.getfield 66, 3) := dk_180 0 66 (dk_at dksX4_later_4 7 rfl rfl)
theorem dX4_later_94 : decode cX4_later 94 = .ok (.bipush 50, 2) := dk_16 50 (dk_at dksX4_later_4 10 rfl rfl)
theorem dX4_later_96 : decode cX4_later 96 = .ok (.aload_n 0, 1) := dk_42 (dk_at dksX4_later_4 12 rfl rfl)
theorem dX4_later_97 : decode cX4_later 97 = .ok (.bipush 49, 2) := dk_16 49 (dk_at dksX4_later_4 13 rfl rfl)
theorem dX4_later_99 : decode cX4_later 99 = .ok (.iconst 0, 1) := dk_3 (dk_at dksX4_later_4 15 rfl rfl)
theorem dX4_later_100 : decode cX4_later 100 = .ok (.invokevirtual 402, 3) := dk_182 1 146 (dk_at dksX4_later_4 16 rfl rfl)
theorem dX4_later_103 : decode cX4_later 103 = .ok (.iadd, 1) := dk_96 (dk_at dksX4_later_4 19 rfl rfl)
theorem dX4_later_104 : decode cX4_later 104 = .ok (.iaload, 1) := dk_46 (dk_at dksX4_later_4 20 rfl rfl)
theorem dX4_later_105 : decode cX4_later 105 = .ok (.isub, 1) := dk_100 (dk_at dksX4_later_4 21 rfl rfl)
theorem dX4_later_106 : decode cX4_later 106 = .ok (.ireturn, 1) := dk_172 (dk_at dksX4_later_4 22 rfl rfl)
theorem dX4_later_107 : decode cX4_later 107 = .ok (.aload_n 0, 1) := dk_42 (dk_at dksX4_later_4 23 rfl rfl)
theorem dX4_later_108 : decode cX4_later 108 = .ok (.iconst 0, 1) := dk_3 (dk_at dksX4_later_5 0 rfl rfl)
theorem dX4_later_109 : decode cX4_later 109 = .ok (.bipush 43, 2) := dk_16 43 (dk_at dksX4_later_5 1 rfl rfl)
theorem dX4_later_111 : decode cX4_later 111 = .ok (.aload_n 0, 1) := dk_42 (dk_at dksX4_later_5 3 rfl rfl)
theorem dX4_later_112 : decode cX4_later 112 = .ok (.getfield 284, 3) := dk_180 1 28 (dk_at dksX4_later_5 4 rfl rfl)
theorem dX4_later_115 : decode cX4_later 115 = .ok (.invokevirtual 369, 3) := dk_182 1 113 (dk_at dksX4_later_5 7 rfl rfl)
theorem dX4_later_118 : decode cX4_later 118 = .ok (.aload_n 0, 1) := dk_42 (dk_at dksX4_later_5 10 rfl rfl)
theorem dX4_later_119 : decode cX4_later 119 = .ok (.bipush 49, 2) := dk_16 49 (dk_at dksX4_later_5 11 rfl rfl)
theorem dX4_later_121 : decode cX4_later 121 = .ok (.bipush 43, 2) := dk_16 43 (dk_at dksX4_later_5 13 rfl rfl)
theorem dX4_later_123 : decode cX4_later 123 = .ok (.aload_n 0, 1) := dk_42 (dk_at dksX4_later_5 15 rfl rfl)
theorem dX4_later_124 : decode cX4_later 124 = .ok (.getfield 284, 3) := dk_180 1 28 (dk_at dksX4_later_5 16 rfl rfl)
theorem dX4_later_127 : decode cX4_later 127 = .ok (.invokevirtual 369, 3) := dk_182 1 113 (dk_at dksX4_later_5 19 rfl rfl)
theorem dX4_later_130 : decode cX4_later 130 = .ok (.isub, 1) := dk_100 (dk_at dksX4_later_5 22 rfl rfl)
theorem dX4_later_131 : decode cX4_later 131 = .ok (.ireturn, 1) := dk_172 (dk_at dksX4_later_5 23 rfl rfl)
abbrev cX4_opensIn : ByteArray := prog_12_method_82_code
def yX4_opensIn : MethodName := ⟨RX4, "opensIn", "(I)I"⟩
def dkwX4_opensIn_1 : List UInt8 := [42, 16, 49, 182, 1, 103, 132, 2, 1, 167, 255, 229, 19, 1, 150, 172]
abbrev dktX4_opensIn_1 : List UInt8 := dkwX4_opensIn_1 ++ []
def dkwX4_opensIn_0 : List UInt8 := [42, 182, 1, 134, 3, 61, 28, 16, 60, 163, 0, 27, 42, 16, 49, 27, 182, 1, 70, 153, 0, 5, 28, 172]
abbrev dktX4_opensIn_0 : List UInt8 := dkwX4_opensIn_0 ++ dktX4_opensIn_1
theorem dksX4_opensIn_0 : cX4_opensIn.data.toList.drop 0 = dktX4_opensIn_0 := by decide +kernel
theorem dksX4_opensIn_1 : cX4_opensIn.data.toList.drop 24 = dktX4_opensIn_1 := dk_seg dksX4_opensIn_0 24 rfl rfl
theorem dX4_opensIn_0 : decode cX4_opensIn 0 = .ok (.aload_n 0, 1) := dk_42 (dk_at dksX4_opensIn_0 0 rfl rfl)
theorem dX4_opensIn_1 : decode cX4_opensIn 1 = .ok (.invokevirtual 390, 3) := dk_182 1 134 (dk_at dksX4_opensIn_0 1 rfl rfl)
theorem dX4_opensIn_4 : decode cX4_opensIn 4 = .ok (.iconst 0, 1) := dk_3 (dk_at dksX4_opensIn_0 4 rfl rfl)
theorem dX4_opensIn_5 : decode cX4_opensIn 5 = .ok (.istore_n 2, 1) := dk_61 (dk_at dksX4_opensIn_0 5 rfl rfl)
theorem dX4_opensIn_6 : decode cX4_opensIn 6 = .ok (.iload_n 2, 1) := dk_28 (dk_at dksX4_opensIn_0 6 rfl rfl)
theorem dX4_opensIn_7 : decode cX4_opensIn 7 = .ok (.bipush 60, 2) := dk_16 60 (dk_at dksX4_opensIn_0 7 rfl rfl)
theorem dX4_opensIn_9 : decode cX4_opensIn 9 = .ok (.if_icmp .gt 27, 3) := dk_163 0 27 (dk_at dksX4_opensIn_0 9 rfl rfl)
theorem dX4_opensIn_12 : decode cX4_opensIn 12 = .ok (.aload_n 0, 1) := dk_42 (dk_at dksX4_opensIn_0 12 rfl rfl)
theorem dX4_opensIn_13 : decode cX4_opensIn 13 = .ok (.bipush 49, 2) := dk_16 49 (dk_at dksX4_opensIn_0 13 rfl rfl)
theorem dX4_opensIn_15 : decode cX4_opensIn 15 = .ok (.iload_n 1, 1) := dk_27 (dk_at dksX4_opensIn_0 15 rfl rfl)
theorem dX4_opensIn_16 : decode cX4_opensIn 16 = .ok (.invokevirtual 326, 3) := dk_182 1 70 (dk_at dksX4_opensIn_0 16 rfl rfl)
theorem dX4_opensIn_19 : decode cX4_opensIn 19 = .ok (.ifCond .eq 5, 3) := dk_153 0 5 (dk_at dksX4_opensIn_0 19 rfl rfl)
theorem dX4_opensIn_22 : decode cX4_opensIn 22 = .ok (.iload_n 2, 1) := dk_28 (dk_at dksX4_opensIn_0 22 rfl rfl)
theorem dX4_opensIn_23 : decode cX4_opensIn 23 = .ok (.ireturn, 1) := dk_172 (dk_at dksX4_opensIn_0 23 rfl rfl)
theorem dX4_opensIn_24 : decode cX4_opensIn 24 = .ok (.aload_n 0, 1) := dk_42 (dk_at dksX4_opensIn_1 0 rfl rfl)
theorem dX4_opensIn_25 : decode cX4_opensIn 25 = .ok (.bipush 49, 2) := dk_16 49 (dk_at dksX4_opensIn_1 1 rfl rfl)
theorem dX4_opensIn_27 : decode cX4_opensIn 27 = .ok (.invokevirtual 359, 3) := dk_182 1 103 (dk_at dksX4_opensIn_1 3 rfl rfl)
theorem dX4_opensIn_30 : decode cX4_opensIn 30 = .ok (.iinc 2 1, 3) := dk_132 2 1 (dk_at dksX4_opensIn_1 6 rfl rfl)
theorem dX4_opensIn_33 : decode cX4_opensIn 33 = .ok (.goto (-27), 3) := dk_167 255 229 (dk_at dksX4_opensIn_1 9 rfl rfl)
theorem dX4_opensIn_36 : decode cX4_opensIn 36 = .ok (.ldc_w 406, 3) := dk_19 1 150 (dk_at dksX4_opensIn_1 12 rfl rfl)
theorem dX4_opensIn_39 : decode cX4_opensIn 39 = .ok (.ireturn, 1) := dk_172 (dk_at dksX4_opensIn_1 15 rfl rfl)
abbrev cX4_opens : ByteArray := prog_12_method_83_code
def yX4_opens : MethodName := ⟨RX4, "opens", "(I)I"⟩
def dkwX4_opens_1 : List UInt8 := [19, 1, 150, 160, 0, 7, 2, 167, 0, 4, 28, 172]
abbrev dktX4_opens_1 : List UInt8 := dkwX4_opens_1 ++ []
def dkwX4_opens_0 : List UInt8 := [42, 3, 181, 0, 117, 42, 27, 182, 1, 119, 154, 0, 5, 3, 172, 42, 27, 182, 1, 151, 61, 28]
abbrev dktX4_opens_0 : List UInt8 := dkwX4_opens_0 ++ dktX4_opens_1
theorem dksX4_opens_0 : cX4_opens.data.toList.drop 0 = dktX4_opens_0 := by decide +kernel
theorem dksX4_opens_1 : cX4_opens.data.toList.drop 22 = dktX4_opens_1 := dk_seg dksX4_opens_0 22 rfl rfl
theorem dX4_opens_0 : decode cX4_opens 0 = .ok (.aload_n 0, 1) := dk_42 (dk_at dksX4_opens_0 0 rfl rfl)
theorem dX4_opens_1 : decode cX4_opens 1 = .ok (.iconst 0, 1) := dk_3 (dk_at dksX4_opens_0 1 rfl rfl)
theorem dX4_opens_2 : decode cX4_opens 2 = .ok (.putfield 117, 3) := dk_181 0 117 (dk_at dksX4_opens_0 2 rfl rfl)
theorem dX4_opens_5 : decode cX4_opens 5 = .ok (.aload_n 0, 1) := dk_42 (dk_at dksX4_opens_0 5 rfl rfl)
theorem dX4_opens_6 : decode cX4_opens 6 = .ok (.iload_n 1, 1) := dk_27 (dk_at dksX4_opens_0 6 rfl rfl)
theorem dX4_opens_7 : decode cX4_opens 7 = .ok (.invokevirtual 375, 3) := dk_182 1 119 (dk_at dksX4_opens_0 7 rfl rfl)
theorem dX4_opens_10 : decode cX4_opens 10 = .ok (.ifCond .ne 5, 3) := dk_154 0 5 (dk_at dksX4_opens_0 10 rfl rfl)
theorem dX4_opens_13 : decode cX4_opens 13 = .ok (.iconst 0, 1) := dk_3 (dk_at dksX4_opens_0 13 rfl rfl)
theorem dX4_opens_14 : decode cX4_opens 14 = .ok (.ireturn, 1) := dk_172 (dk_at dksX4_opens_0 14 rfl rfl)
theorem dX4_opens_15 : decode cX4_opens 15 = .ok (.aload_n 0, 1) := dk_42 (dk_at dksX4_opens_0 15 rfl rfl)
theorem dX4_opens_16 : decode cX4_opens 16 = .ok (.iload_n 1, 1) := dk_27 (dk_at dksX4_opens_0 16 rfl rfl)
theorem dX4_opens_17 : decode cX4_opens 17 = .ok (.invokevirtual 407, 3) := dk_182 1 151 (dk_at dksX4_opens_0 17 rfl rfl)
theorem dX4_opens_20 : decode cX4_opens 20 = .ok (.istore_n 2, 1) := dk_61 (dk_at dksX4_opens_0 20 rfl rfl)
theorem dX4_opens_21 : decode cX4_opens 21 = .ok (.iload_n 2, 1) := dk_28 (dk_at dksX4_opens_0 21 rfl rfl)
theorem dX4_opens_22 : decode cX4_opens 22 = .ok (.ldc_w 406, 3) := dk_19 1 150 (dk_at dksX4_opens_1 0 rfl rfl)
theorem dX4_opens_25 : decode cX4_opens 25 = .ok (.if_icmp .ne 7, 3) := dk_160 0 7 (dk_at dksX4_opens_1 3 rfl rfl)
theorem dX4_opens_28 : decode cX4_opens 28 = .ok (.iconst (-1), 1) := dk_2 (dk_at dksX4_opens_1 6 rfl rfl)
theorem dX4_opens_29 : decode cX4_opens 29 = .ok (.goto 4, 3) := dk_167 0 4 (dk_at dksX4_opens_1 7 rfl rfl)
theorem dX4_opens_32 : decode cX4_opens 32 = .ok (.iload_n 2, 1) := dk_28 (dk_at dksX4_opens_1 10 rfl rfl)
theorem dX4_opens_33 : decode cX4_opens 33 = .ok (.ireturn, 1) := dk_172 (dk_at dksX4_opens_1 11 rfl rfl)
abbrev cX4_first : ByteArray := prog_12_method_84_code
def yX4_first : MethodName := ⟨RX4, "first", "()I"⟩
def dkwX4_first_2 : List UInt8 := [132, 3, 1, 167, 255, 219, 27, 172]
abbrev dktX4_first_2 : List UInt8 := dkwX4_first_2 ++ []
def dkwX4_first_1 : List UInt8 := [182, 1, 151, 54, 4, 21, 4, 153, 0, 17, 21, 4, 28, 161, 0, 6, 167, 0, 8, 29, 60, 21, 4, 61]
abbrev dktX4_first_1 : List UInt8 := dkwX4_first_1 ++ dktX4_first_2
def dkwX4_first_0 : List UInt8 := [42, 3, 181, 0, 117, 2, 60, 19, 1, 150, 61, 3, 62, 29, 42, 180, 0, 7, 162, 0, 35, 42, 29]
abbrev dktX4_first_0 : List UInt8 := dkwX4_first_0 ++ dktX4_first_1
theorem dksX4_first_0 : cX4_first.data.toList.drop 0 = dktX4_first_0 := by decide +kernel
theorem dksX4_first_1 : cX4_first.data.toList.drop 23 = dktX4_first_1 := dk_seg dksX4_first_0 23 rfl rfl
theorem dksX4_first_2 : cX4_first.data.toList.drop 47 = dktX4_first_2 := dk_seg dksX4_first_1 24 rfl rfl
theorem dX4_first_0 : decode cX4_first 0 = .ok (.aload_n 0, 1) := dk_42 (dk_at dksX4_first_0 0 rfl rfl)
theorem dX4_first_1 : decode cX4_first 1 = .ok (.iconst 0, 1) := dk_3 (dk_at dksX4_first_0 1 rfl rfl)
theorem dX4_first_2 : decode cX4_first 2 = .ok (.putfield 117, 3) := dk_181 0 117 (dk_at dksX4_first_0 2 rfl rfl)
theorem dX4_first_5 : decode cX4_first 5 = .ok (.iconst (-1), 1) := dk_2 (dk_at dksX4_first_0 5 rfl rfl)
theorem dX4_first_6 : decode cX4_first 6 = .ok (.istore_n 1, 1) := dk_60 (dk_at dksX4_first_0 6 rfl rfl)
theorem dX4_first_7 : decode cX4_first 7 = .ok (.ldc_w 406, 3) := dk_19 1 150 (dk_at dksX4_first_0 7 rfl rfl)
theorem dX4_first_10 : decode cX4_first 10 = .ok (.istore_n 2, 1) := dk_61 (dk_at dksX4_first_0 10 rfl rfl)
theorem dX4_first_11 : decode cX4_first 11 = .ok (.iconst 0, 1) := dk_3 (dk_at dksX4_first_0 11 rfl rfl)
theorem dX4_first_12 : decode cX4_first 12 = .ok (.istore_n 3, 1) := dk_62 (dk_at dksX4_first_0 12 rfl rfl)
theorem dX4_first_13 : decode cX4_first 13 = .ok (.iload_n 3, 1) := dk_29 (dk_at dksX4_first_0 13 rfl rfl)
theorem dX4_first_14 : decode cX4_first 14 = .ok (.aload_n 0, 1) := dk_42 (dk_at dksX4_first_0 14 rfl rfl)
theorem dX4_first_15 : decode cX4_first 15 = .ok (.getfield 7, 3) := dk_180 0 7 (dk_at dksX4_first_0 15 rfl rfl)
theorem dX4_first_18 : decode cX4_first 18 = .ok (.if_icmp .ge 35, 3) := dk_162 0 35 (dk_at dksX4_first_0 18 rfl rfl)
theorem dX4_first_21 : decode cX4_first 21 = .ok (.aload_n 0, 1) := dk_42 (dk_at dksX4_first_0 21 rfl rfl)
theorem dX4_first_22 : decode cX4_first 22 = .ok (.iload_n 3, 1) := dk_29 (dk_at dksX4_first_0 22 rfl rfl)
theorem dX4_first_23 : decode cX4_first 23 = .ok (.invokevirtual 407, 3) := dk_182 1 151 (dk_at dksX4_first_1 0 rfl rfl)
theorem dX4_first_26 : decode cX4_first 26 = .ok (.istore 4, 2) := dk_54 4 (dk_at dksX4_first_1 3 rfl rfl)
theorem dX4_first_28 : decode cX4_first 28 = .ok (.iload 4, 2) := dk_21 4 (dk_at dksX4_first_1 5 rfl rfl)
theorem dX4_first_30 : decode cX4_first 30 = .ok (.ifCond .eq 17, 3) := dk_153 0 17 (dk_at dksX4_first_1 7 rfl rfl)
theorem dX4_first_33 : decode cX4_first 33 = .ok (.iload 4, 2) := dk_21 4 (dk_at dksX4_first_1 10 rfl rfl)
theorem dX4_first_35 : decode cX4_first 35 = .ok (.iload_n 2, 1) := dk_28 (dk_at dksX4_first_1 12 rfl rfl)
theorem dX4_first_36 : decode cX4_first 36 = .ok (.if_icmp .lt 6, 3) := dk_161 0 6 (dk_at dksX4_first_1 13 rfl rfl)
theorem dX4_first_39 : decode cX4_first 39 = .ok (.goto 8, 3) := dk_167 0 8 (dk_at dksX4_first_1 16 rfl rfl)
theorem dX4_first_42 : decode cX4_first 42 = .ok (.iload_n 3, 1) := dk_29 (dk_at dksX4_first_1 19 rfl rfl)
theorem dX4_first_43 : decode cX4_first 43 = .ok (.istore_n 1, 1) := dk_60 (dk_at dksX4_first_1 20 rfl rfl)
theorem dX4_first_44 : decode cX4_first 44 = .ok (.iload 4, 2) := dk_21 4 (dk_at dksX4_first_1 21 rfl rfl)
theorem dX4_first_46 : decode cX4_first 46 = .ok (.istore_n 2, 1) := dk_61 (dk_at dksX4_first_1 23 rfl rfl)
theorem dX4_first_47 : decode cX4_first 47 = .ok (.iinc 3 1, 3) := dk_132 3 1 (dk_at dksX4_first_2 0 rfl rfl)
theorem dX4_first_50 : decode cX4_first 50 = .ok (.goto (-37), 3) := dk_167 255 219 (dk_at dksX4_first_2 3 rfl rfl)
theorem dX4_first_53 : decode cX4_first 53 = .ok (.iload_n 1, 1) := dk_27 (dk_at dksX4_first_2 6 rfl rfl)
theorem dX4_first_54 : decode cX4_first 54 = .ok (.ireturn, 1) := dk_172 (dk_at dksX4_first_2 7 rfl rfl)
abbrev cX4_where : ByteArray := prog_12_method_85_code
def yX4_where : MethodName := ⟨RX4, "where", "(III)I"⟩
def dkwX4_where_2 : List UInt8 := [154, 0, 8, 16, 37, 167, 0, 5, 16, 43, 96, 27, 96, 46, 172]
abbrev dktX4_where_2 : List UInt8 := dkwX4_where_2 ++ []
def dkwX4_where_1 : List UInt8 := [3, 5, 182, 1, 140, 154, 0, 5, 3, 172, 42, 28, 182, 1, 143, 42, 180, 0, 66, 16, 49, 29]
abbrev dktX4_where_1 : List UInt8 := dkwX4_where_1 ++ dktX4_where_2
def dkwX4_where_0 : List UInt8 := [42, 3, 181, 0, 117, 42, 27, 182, 1, 125, 153, 0, 22, 42, 29, 4, 182, 1, 122, 153, 0, 13, 42, 28]
abbrev dktX4_where_0 : List UInt8 := dkwX4_where_0 ++ dktX4_where_1
theorem dksX4_where_0 : cX4_where.data.toList.drop 0 = dktX4_where_0 := by decide +kernel
theorem dksX4_where_1 : cX4_where.data.toList.drop 24 = dktX4_where_1 := dk_seg dksX4_where_0 24 rfl rfl
theorem dksX4_where_2 : cX4_where.data.toList.drop 46 = dktX4_where_2 := dk_seg dksX4_where_1 22 rfl rfl
theorem dX4_where_0 : decode cX4_where 0 = .ok (.aload_n 0, 1) := dk_42 (dk_at dksX4_where_0 0 rfl rfl)
theorem dX4_where_1 : decode cX4_where 1 = .ok (.iconst 0, 1) := dk_3 (dk_at dksX4_where_0 1 rfl rfl)
theorem dX4_where_2 : decode cX4_where 2 = .ok (.putfield 117, 3) := dk_181 0 117 (dk_at dksX4_where_0 2 rfl rfl)
theorem dX4_where_5 : decode cX4_where 5 = .ok (.aload_n 0, 1) := dk_42 (dk_at dksX4_where_0 5 rfl rfl)
theorem dX4_where_6 : decode cX4_where 6 = .ok (.iload_n 1, 1) := dk_27 (dk_at dksX4_where_0 6 rfl rfl)
theorem dX4_where_7 : decode cX4_where 7 = .ok (.invokevirtual 381, 3) := dk_182 1 125 (dk_at dksX4_where_0 7 rfl rfl)
theorem dX4_where_10 : decode cX4_where 10 = .ok (.ifCond .eq 22, 3) := dk_153 0 22 (dk_at dksX4_where_0 10 rfl rfl)
theorem dX4_where_13 : decode cX4_where 13 = .ok (.aload_n 0, 1) := dk_42 (dk_at dksX4_where_0 13 rfl rfl)
theorem dX4_where_14 : decode cX4_where 14 = .ok (.iload_n 3, 1) := dk_29 (dk_at dksX4_where_0 14 rfl rfl)
theorem dX4_where_15 : decode cX4_where 15 = .ok (.iconst 1, 1) := dk_4 (dk_at dksX4_where_0 15 rfl rfl)
theorem dX4_where_16 : decode cX4_where 16 = .ok (.invokevirtual 378, 3) := dk_182 1 122 (dk_at dksX4_where_0 16 rfl rfl)
theorem dX4_where_19 : decode cX4_where 19 = .ok (.ifCond .eq 13, 3) := dk_153 0 13 (dk_at dksX4_where_0 19 rfl rfl)
theorem dX4_where_22 : decode cX4_where 22 = .ok (.aload_n 0, 1) := dk_42 (dk_at dksX4_where_0 22 rfl rfl)
theorem dX4_where_23 : decode cX4_where 23 = .ok (.iload_n 2, 1) := dk_28 (dk_at dksX4_where_0 23 rfl rfl)
theorem dX4_where_24 : decode cX4_where 24 = .ok (.iconst 0, 1) := dk_3 (dk_at dksX4_where_1 0 rfl rfl)
theorem dX4_where_25 : decode cX4_where 25 = .ok (.iconst 2, 1) := dk_5 (dk_at dksX4_where_1 1 rfl rfl)
theorem dX4_where_26 : decode cX4_where 26 = .ok (.invokevirtual 396, 3) := dk_182 1 140 (dk_at dksX4_where_1 2 rfl rfl)
theorem dX4_where_29 : decode cX4_where 29 = .ok (.ifCond .ne 5, 3) := dk_154 0 5 (dk_at dksX4_where_1 5 rfl rfl)
theorem dX4_where_32 : decode cX4_where 32 = .ok (.iconst 0, 1) := dk_3 (dk_at dksX4_where_1 8 rfl rfl)
theorem dX4_where_33 : decode cX4_where 33 = .ok (.ireturn, 1) := dk_172 (dk_at dksX4_where_1 9 rfl rfl)
theorem dX4_where_34 : decode cX4_where 34 = .ok (.aload_n 0, 1) := dk_42 (dk_at dksX4_where_1 10 rfl rfl)
theorem dX4_where_35 : decode cX4_where 35 = .ok (.iload_n 2, 1) := dk_28 (dk_at dksX4_where_1 11 rfl rfl)
theorem dX4_where_36 : decode cX4_where 36 = .ok (.invokevirtual 399, 3) := dk_182 1 143 (dk_at dksX4_where_1 12 rfl rfl)
theorem dX4_where_39 : decode cX4_where 39 = .ok (.aload_n 0, 1) := dk_42 (dk_at dksX4_where_1 15 rfl rfl)
theorem dX4_where_40 : decode cX4_where 40 = .ok (.getfield 66, 3) := dk_180 0 66 (dk_at dksX4_where_1 16 rfl rfl)
theorem dX4_where_43 : decode cX4_where 43 = .ok (.bipush 49, 2) := dk_16 49 (dk_at dksX4_where_1 19 rfl rfl)
theorem dX4_where_45 : decode cX4_where 45 = .ok (.iload_n 3, 1) := dk_29 (dk_at dksX4_where_1 21 rfl rfl)
theorem dX4_where_46 : decode cX4_where 46 = .ok (.ifCond .ne 8, 3) := dk_154 0 8 (dk_at dksX4_where_2 0 rfl rfl)
theorem dX4_where_49 : decode cX4_where 49 = .ok (.bipush 37, 2) := dk_16 37 (dk_at dksX4_where_2 3 rfl rfl)
theorem dX4_where_51 : decode cX4_where 51 = .ok (.goto 5, 3) := dk_167 0 5 (dk_at dksX4_where_2 5 rfl rfl)
theorem dX4_where_54 : decode cX4_where 54 = .ok (.bipush 43, 2) := dk_16 43 (dk_at dksX4_where_2 8 rfl rfl)
theorem dX4_where_56 : decode cX4_where 56 = .ok (.iadd, 1) := dk_96 (dk_at dksX4_where_2 10 rfl rfl)
theorem dX4_where_57 : decode cX4_where 57 = .ok (.iload_n 1, 1) := dk_27 (dk_at dksX4_where_2 11 rfl rfl)
theorem dX4_where_58 : decode cX4_where 58 = .ok (.iadd, 1) := dk_96 (dk_at dksX4_where_2 12 rfl rfl)
theorem dX4_where_59 : decode cX4_where 59 = .ok (.iaload, 1) := dk_46 (dk_at dksX4_where_2 13 rfl rfl)
theorem dX4_where_60 : decode cX4_where 60 = .ok (.ireturn, 1) := dk_172 (dk_at dksX4_where_2 14 rfl rfl)
abbrev cX4_spent : ByteArray := prog_12_method_86_code
def yX4_spent : MethodName := ⟨RX4, "spent", "()I"⟩
def dkwX4_spent_2 : List UInt8 := [172]
abbrev dktX4_spent_2 : List UInt8 := dkwX4_spent_2 ++ []
def dkwX4_spent_1 : List UInt8 := [180, 1, 28, 182, 1, 113, 154, 0, 5, 27, 172, 42, 16, 49, 182, 1, 103, 132, 1, 1, 167, 255, 224, 2]
abbrev dktX4_spent_1 : List UInt8 := dkwX4_spent_1 ++ dktX4_spent_2
def dkwX4_spent_0 : List UInt8 := [42, 3, 181, 0, 117, 42, 182, 1, 134, 3, 60, 27, 16, 60, 163, 0, 32, 42, 16, 49, 16, 43, 42]
abbrev dktX4_spent_0 : List UInt8 := dkwX4_spent_0 ++ dktX4_spent_1
theorem dksX4_spent_0 : cX4_spent.data.toList.drop 0 = dktX4_spent_0 := by decide +kernel
theorem dksX4_spent_1 : cX4_spent.data.toList.drop 23 = dktX4_spent_1 := dk_seg dksX4_spent_0 23 rfl rfl
theorem dksX4_spent_2 : cX4_spent.data.toList.drop 47 = dktX4_spent_2 := dk_seg dksX4_spent_1 24 rfl rfl
theorem dX4_spent_0 : decode cX4_spent 0 = .ok (.aload_n 0, 1) := dk_42 (dk_at dksX4_spent_0 0 rfl rfl)
theorem dX4_spent_1 : decode cX4_spent 1 = .ok (.iconst 0, 1) := dk_3 (dk_at dksX4_spent_0 1 rfl rfl)
theorem dX4_spent_2 : decode cX4_spent 2 = .ok (.putfield 117, 3) := dk_181 0 117 (dk_at dksX4_spent_0 2 rfl rfl)
theorem dX4_spent_5 : decode cX4_spent 5 = .ok (.aload_n 0, 1) := dk_42 (dk_at dksX4_spent_0 5 rfl rfl)
theorem dX4_spent_6 : decode cX4_spent 6 = .ok (.invokevirtual 390, 3) := dk_182 1 134 (dk_at dksX4_spent_0 6 rfl rfl)
theorem dX4_spent_9 : decode cX4_spent 9 = .ok (.iconst 0, 1) := dk_3 (dk_at dksX4_spent_0 9 rfl rfl)
theorem dX4_spent_10 : decode cX4_spent 10 = .ok (.istore_n 1, 1) := dk_60 (dk_at dksX4_spent_0 10 rfl rfl)
theorem dX4_spent_11 : decode cX4_spent 11 = .ok (.iload_n 1, 1) := dk_27 (dk_at dksX4_spent_0 11 rfl rfl)
theorem dX4_spent_12 : decode cX4_spent 12 = .ok (.bipush 60, 2) := dk_16 60 (dk_at dksX4_spent_0 12 rfl rfl)
theorem dX4_spent_14 : decode cX4_spent 14 = .ok (.if_icmp .gt 32, 3) := dk_163 0 32 (dk_at dksX4_spent_0 14 rfl rfl)
theorem dX4_spent_17 : decode cX4_spent 17 = .ok (.aload_n 0, 1) := dk_42 (dk_at dksX4_spent_0 17 rfl rfl)
theorem dX4_spent_18 : decode cX4_spent 18 = .ok (.bipush 49, 2) := dk_16 49 (dk_at dksX4_spent_0 18 rfl rfl)
theorem dX4_spent_20 : decode cX4_spent 20 = .ok (.bipush 43, 2) := dk_16 43 (dk_at dksX4_spent_0 20 rfl rfl)
theorem dX4_spent_22 : decode cX4_spent 22 = .ok (.aload_n 0, 1) := dk_42 (dk_at dksX4_spent_0 22 rfl rfl)
theorem dX4_spent_23 : decode cX4_spent 23 = .ok (.getfield 284, 3) := dk_180 1 28 (dk_at dksX4_spent_1 0 rfl rfl)
theorem dX4_spent_26 : decode cX4_spent 26 = .ok (.invokevirtual 369, 3) := dk_182 1 113 (dk_at dksX4_spent_1 3 rfl rfl)
theorem dX4_spent_29 : decode cX4_spent 29 = .ok (.ifCond .ne 5, 3) := dk_154 0 5 (dk_at dksX4_spent_1 6 rfl rfl)
theorem dX4_spent_32 : decode cX4_spent 32 = .ok (.iload_n 1, 1) := dk_27 (dk_at dksX4_spent_1 9 rfl rfl)
theorem dX4_spent_33 : decode cX4_spent 33 = .ok (.ireturn, 1) := dk_172 (dk_at dksX4_spent_1 10 rfl rfl)
theorem dX4_spent_34 : decode cX4_spent 34 = .ok (.aload_n 0, 1) := dk_42 (dk_at dksX4_spent_1 11 rfl rfl)
theorem dX4_spent_35 : decode cX4_spent 35 = .ok (.bipush 49, 2) := dk_16 49 (dk_at dksX4_spent_1 12 rfl rfl)
theorem dX4_spent_37 : decode cX4_spent 37 = .ok (.invokevirtual 359, 3) := dk_182 1 103 (dk_at dksX4_spent_1 14 rfl rfl)
theorem dX4_spent_40 : decode cX4_spent 40 = .ok (.iinc 1 1, 3) := dk_132 1 1 (dk_at dksX4_spent_1 17 rfl rfl)
theorem dX4_spent_43 : decode cX4_spent 43 = .ok (.goto (-32), 3) := dk_167 255 224 (dk_at dksX4_spent_1 20 rfl rfl)
theorem dX4_spent_46 : decode cX4_spent 46 = .ok (.iconst (-1), 1) := dk_2 (dk_at dksX4_spent_1 23 rfl rfl)
theorem dX4_spent_47 : decode cX4_spent 47 = .ok (.ireturn, 1) := dk_172 (dk_at dksX4_spent_2 0 rfl rfl)
abbrev cX4_toHold : ByteArray := prog_12_method_87_code
def yX4_toHold : MethodName := ⟨RX4, "toHold", "(II)I"⟩
def dkwX4_toHold_5 : List UInt8 := [167, 255, 165, 2, 172]
abbrev dktX4_toHold_5 : List UInt8 := dkwX4_toHold_5 ++ []
def dkwX4_toHold_4 : List UInt8 := [4, 167, 0, 4, 3, 54, 4, 132, 5, 1, 167, 255, 219, 21, 4, 153, 0, 5, 29, 172, 132, 3, 1]
abbrev dktX4_toHold_4 : List UInt8 := dkwX4_toHold_4 ++ dktX4_toHold_5
def dkwX4_toHold_3 : List UInt8 := [162, 0, 37, 21, 4, 153, 0, 32, 42, 16, 49, 182, 1, 103, 42, 16, 49, 27, 182, 1, 70, 154, 0, 7]
abbrev dktX4_toHold_3 : List UInt8 := dkwX4_toHold_3 ++ dktX4_toHold_4
def dkwX4_toHold_2 : List UInt8 := [180, 0, 66, 16, 62, 27, 96, 46, 29, 96, 184, 1, 80, 79, 4, 54, 4, 3, 54, 5, 21, 5, 28]
abbrev dktX4_toHold_2 : List UInt8 := dkwX4_toHold_2 ++ dktX4_toHold_3
def dkwX4_toHold_1 : List UInt8 := [172, 3, 62, 29, 16, 99, 163, 0, 91, 42, 182, 1, 134, 42, 180, 0, 66, 16, 62, 27, 96, 16, 99, 42]
abbrev dktX4_toHold_1 : List UInt8 := dkwX4_toHold_1 ++ dktX4_toHold_2
def dkwX4_toHold_0 : List UInt8 := [42, 3, 181, 0, 117, 42, 27, 182, 1, 119, 153, 0, 13, 42, 28, 4, 5, 182, 1, 140, 154, 0, 5, 3]
abbrev dktX4_toHold_0 : List UInt8 := dkwX4_toHold_0 ++ dktX4_toHold_1
theorem dksX4_toHold_0 : cX4_toHold.data.toList.drop 0 = dktX4_toHold_0 := by decide +kernel
theorem dksX4_toHold_1 : cX4_toHold.data.toList.drop 24 = dktX4_toHold_1 := dk_seg dksX4_toHold_0 24 rfl rfl
theorem dksX4_toHold_2 : cX4_toHold.data.toList.drop 48 = dktX4_toHold_2 := dk_seg dksX4_toHold_1 24 rfl rfl
theorem dksX4_toHold_3 : cX4_toHold.data.toList.drop 71 = dktX4_toHold_3 := dk_seg dksX4_toHold_2 23 rfl rfl
theorem dksX4_toHold_4 : cX4_toHold.data.toList.drop 95 = dktX4_toHold_4 := dk_seg dksX4_toHold_3 24 rfl rfl
theorem dksX4_toHold_5 : cX4_toHold.data.toList.drop 118 = dktX4_toHold_5 := dk_seg dksX4_toHold_4 23 rfl rfl
theorem dX4_toHold_0 : decode cX4_toHold 0 = .ok (.aload_n 0, 1) := dk_42 (dk_at dksX4_toHold_0 0 rfl rfl)
theorem dX4_toHold_1 : decode cX4_toHold 1 = .ok (.iconst 0, 1) := dk_3 (dk_at dksX4_toHold_0 1 rfl rfl)
theorem dX4_toHold_2 : decode cX4_toHold 2 = .ok (.putfield 117, 3) := dk_181 0 117 (dk_at dksX4_toHold_0 2 rfl rfl)
theorem dX4_toHold_5 : decode cX4_toHold 5 = .ok (.aload_n 0, 1) := dk_42 (dk_at dksX4_toHold_0 5 rfl rfl)
theorem dX4_toHold_6 : decode cX4_toHold 6 = .ok (.iload_n 1, 1) := dk_27 (dk_at dksX4_toHold_0 6 rfl rfl)
theorem dX4_toHold_7 : decode cX4_toHold 7 = .ok (.invokevirtual 375, 3) := dk_182 1 119 (dk_at dksX4_toHold_0 7 rfl rfl)
theorem dX4_toHold_10 : decode cX4_toHold 10 = .ok (.ifCond .eq 13, 3) := dk_153 0 13 (dk_at dksX4_toHold_0 10 rfl rfl)
theorem dX4_toHold_13 : decode cX4_toHold 13 = .ok (.aload_n 0, 1) := dk_42 (dk_at dksX4_toHold_0 13 rfl rfl)
theorem dX4_toHold_14 : decode cX4_toHold 14 = .ok (.iload_n 2, 1) := dk_28 (dk_at dksX4_toHold_0 14 rfl rfl)
theorem dX4_toHold_15 : decode cX4_toHold 15 = .ok (.iconst 1, 1) := dk_4 (dk_at dksX4_toHold_0 15 rfl rfl)
theorem dX4_toHold_16 : decode cX4_toHold 16 = .ok (.iconst 2, 1) := dk_5 (dk_at dksX4_toHold_0 16 rfl rfl)
theorem dX4_toHold_17 : decode cX4_toHold 17 = .ok (.invokevirtual 396, 3) := dk_182 1 140 (dk_at dksX4_toHold_0 17 rfl rfl)
theorem dX4_toHold_20 : decode cX4_toHold 20 = .ok (.ifCond .ne 5, 3) := dk_154 0 5 (dk_at dksX4_toHold_0 20 rfl rfl)
theorem dX4_toHold_23 : decode cX4_toHold 23 = .ok (.iconst 0, 1) := dk_3 (dk_at dksX4_toHold_0 23 rfl rfl)
theorem dX4_toHold_24 : decode cX4_toHold 24 = .ok (.ireturn, 1) := dk_172 (dk_at dksX4_toHold_1 0 rfl rfl)
theorem dX4_toHold_25 : decode cX4_toHold 25 = .ok (.iconst 0, 1) := dk_3 (dk_at dksX4_toHold_1 1 rfl rfl)
theorem dX4_toHold_26 : decode cX4_toHold 26 = .ok (.istore_n 3, 1) := dk_62 (dk_at dksX4_toHold_1 2 rfl rfl)
theorem dX4_toHold_27 : decode cX4_toHold 27 = .ok (.iload_n 3, 1) := dk_29 (dk_at dksX4_toHold_1 3 rfl rfl)
theorem dX4_toHold_28 : decode cX4_toHold 28 = .ok (.bipush 99, 2) := dk_16 99 (dk_at dksX4_toHold_1 4 rfl rfl)
theorem dX4_toHold_30 : decode cX4_toHold 30 = .ok (.if_icmp .gt 91, 3) := dk_163 0 91 (dk_at dksX4_toHold_1 6 rfl rfl)
theorem dX4_toHold_33 : decode cX4_toHold 33 = .ok (.aload_n 0, 1) := dk_42 (dk_at dksX4_toHold_1 9 rfl rfl)
theorem dX4_toHold_34 : decode cX4_toHold 34 = .ok (.invokevirtual 390, 3) := dk_182 1 134 (dk_at dksX4_toHold_1 10 rfl rfl)
theorem dX4_toHold_37 : decode cX4_toHold 37 = .ok (.aload_n 0, 1) := dk_42 (dk_at dksX4_toHold_1 13 rfl rfl)
theorem dX4_toHold_38 : decode cX4_toHold 38 = .ok (.getfield 66, 3) := dk_180 0 66 (dk_at dksX4_toHold_1 14 rfl rfl)
theorem dX4_toHold_41 : decode cX4_toHold 41 = .ok (.bipush 62, 2) := dk_16 62 (dk_at dksX4_toHold_1 17 rfl rfl)
theorem dX4_toHold_43 : decode cX4_toHold 43 = .ok (.iload_n 1, 1) := dk_27 (dk_at dksX4_toHold_1 19 rfl rfl)
theorem dX4_toHold_44 : decode cX4_toHold 44 = .ok (.iadd, 1) := dk_96 (dk_at dksX4_toHold_1 20 rfl rfl)
theorem dX4_toHold_45 : decode cX4_toHold 45 = .ok (.bipush 99, 2) := dk_16 99 (dk_at dksX4_toHold_1 21 rfl rfl)
theorem dX4_toHold_47 : decode cX4_toHold 47 = .ok (.aload_n 0, 1) := dk_42 (dk_at dksX4_toHold_1 23 rfl rfl)
theorem dX4_toHold_48 : decode cX4_toHold 48 = .ok (.getfield 66, 3) := dk_180 0 66 (dk_at dksX4_toHold_2 0 rfl rfl)
theorem dX4_toHold_51 : decode cX4_toHold 51 = .ok (.bipush 62, 2) := dk_16 62 (dk_at dksX4_toHold_2 3 rfl rfl)
theorem dX4_toHold_53 : decode cX4_toHold 53 = .ok (.iload_n 1, 1) := dk_27 (dk_at dksX4_toHold_2 5 rfl rfl)
theorem dX4_toHold_54 : decode cX4_toHold 54 = .ok (.iadd, 1) := dk_96 (dk_at dksX4_toHold_2 6 rfl rfl)
theorem dX4_toHold_55 : decode cX4_toHold 55 = .ok (.iaload, 1) := dk_46 (dk_at dksX4_toHold_2 7 rfl rfl)
theorem dX4_toHold_56 : decode cX4_toHold 56 = .ok (.iload_n 3, 1) := dk_29 (dk_at dksX4_toHold_2 8 rfl rfl)
theorem dX4_toHold_57 : decode cX4_toHold 57 = .ok (.iadd, 1) := dk_96 (dk_at dksX4_toHold_2 9 rfl rfl)
theorem dX4_toHold_58 : decode cX4_toHold 58 = .ok (.invokestatic 336, 3) := dk_184 1 80 (dk_at dksX4_toHold_2 10 rfl rfl)
theorem dX4_toHold_61 : decode cX4_toHold 61 = .ok (.iastore, 1) := dk_79 (dk_at dksX4_toHold_2 13 rfl rfl)
theorem dX4_toHold_62 : decode cX4_toHold 62 = .ok (.iconst 1, 1) := dk_4 (dk_at dksX4_toHold_2 14 rfl rfl)
theorem dX4_toHold_63 : decode cX4_toHold 63 = .ok (.istore 4, 2) := dk_54 4 (dk_at dksX4_toHold_2 15 rfl rfl)
theorem dX4_toHold_65 : decode cX4_toHold 65 = .ok (.iconst 0, 1) := dk_3 (dk_at dksX4_toHold_2 17 rfl rfl)
theorem dX4_toHold_66 : decode cX4_toHold 66 = .ok (.istore 5, 2) := dk_54 5 (dk_at dksX4_toHold_2 18 rfl rfl)
theorem dX4_toHold_68 : decode cX4_toHold 68 = .ok (.iload 5, 2) := dk_21 5 (dk_at dksX4_toHold_2 20 rfl rfl)
theorem dX4_toHold_70 : decode cX4_toHold 70 = .ok (.iload_n 2, 1) := dk_28 (dk_at dksX4_toHold_2 22 rfl rfl)
theorem dX4_toHold_71 : decode cX4_toHold 71 = .ok (.if_icmp .ge 37, 3) := dk_162 0 37 (dk_at dksX4_toHold_3 0 rfl rfl)
theorem dX4_toHold_74 : decode cX4_toHold 74 = .ok (.iload 4, 2) := dk_21 4 (dk_at dksX4_toHold_3 3 rfl rfl)
theorem dX4_toHold_76 : decode cX4_toHold 76 = .ok (.ifCond .eq 32, 3) := dk_153 0 32 (dk_at dksX4_toHold_3 5 rfl rfl)
theorem dX4_toHold_79 : decode cX4_toHold 79 = .ok (.aload_n 0, 1) := dk_42 (dk_at dksX4_toHold_3 8 rfl rfl)
theorem dX4_toHold_80 : decode cX4_toHold 80 = .ok (.bipush 49, 2) := dk_16 49 (dk_at dksX4_toHold_3 9 rfl rfl)
theorem dX4_toHold_82 : decode cX4_toHold 82 = .ok (.invokevirtual 359, 3) := dk_182 1 103 (dk_at dksX4_toHold_3 11 rfl rfl)
theorem dX4_toHold_85 : decode cX4_toHold 85 = .ok (.aload_n 0, 1) := dk_42 (dk_at dksX4_toHold_3 14 rfl rfl)
theorem dX4_toHold_86 : decode cX4_toHold 86 = .ok (.bipush 49, 2) := dk_16 49 (dk_at dksX4_toHold_3 15 rfl rfl)
theorem dX4_toHold_88 : decode cX4_toHold 88 = .ok (.iload_n 1, 1) := dk_27 (dk_at dksX4_toHold_3 17 rfl rfl)
theorem dX4_toHold_89 : decode cX4_toHold 89 = .ok (.invokevirtual 326, 3) := dk_182 1 70 (dk_at dksX4_toHold_3 18 rfl rfl)
theorem dX4_toHold_92 : decode cX4_toHold 92 = .ok (.ifCond .ne 7, 3) := dk_154 0 7 (dk_at dksX4_toHold_3 21 rfl rfl)
theorem dX4_toHold_95 : decode cX4_toHold 95 = .ok (.iconst 1, 1) := dk_4 (dk_at dksX4_toHold_4 0 rfl rfl)
theorem dX4_toHold_96 : decode cX4_toHold 96 = .ok (.goto 4, 3) := dk_167 0 4 (dk_at dksX4_toHold_4 1 rfl rfl)
theorem dX4_toHold_99 : decode cX4_toHold 99 = .ok (.iconst 0, 1) := dk_3 (dk_at dksX4_toHold_4 4 rfl rfl)
theorem dX4_toHold_100 : decode cX4_toHold 100 = .ok (.istore 4, 2) := dk_54 4 (dk_at dksX4_toHold_4 5 rfl rfl)
theorem dX4_toHold_102 : decode cX4_toHold 102 = .ok (.iinc 5 1, 3) := dk_132 5 1 (dk_at dksX4_toHold_4 7 rfl rfl)
theorem dX4_toHold_105 : decode cX4_toHold 105 = .ok (.goto (-37), 3) := dk_167 255 219 (dk_at dksX4_toHold_4 10 rfl rfl)
theorem dX4_toHold_108 : decode cX4_toHold 108 = .ok (.iload 4, 2) := dk_21 4 (dk_at dksX4_toHold_4 13 rfl rfl)
theorem dX4_toHold_110 : decode cX4_toHold 110 = .ok (.ifCond .eq 5, 3) := dk_153 0 5 (dk_at dksX4_toHold_4 15 rfl rfl)
theorem dX4_toHold_113 : decode cX4_toHold 113 = .ok (.iload_n 3, 1) := dk_29 (dk_at dksX4_toHold_4 18 rfl rfl)
theorem dX4_toHold_114 : decode cX4_toHold 114 = .ok (.ireturn, 1) := dk_172 (dk_at dksX4_toHold_4 19 rfl rfl)
theorem dX4_toHold_115 : decode cX4_toHold 115 = .ok (.iinc 3 1, 3) := dk_132 3 1 (dk_at dksX4_toHold_4 20 rfl rfl)
theorem dX4_toHold_118 : decode cX4_toHold 118 = .ok (.goto (-91), 3) := dk_167 255 165 (dk_at dksX4_toHold_5 0 rfl rfl)
theorem dX4_toHold_121 : decode cX4_toHold 121 = .ok (.iconst (-1), 1) := dk_2 (dk_at dksX4_toHold_5 3 rfl rfl)
theorem dX4_toHold_122 : decode cX4_toHold 122 = .ok (.ireturn, 1) := dk_172 (dk_at dksX4_toHold_5 4 rfl rfl)
abbrev cX4_toSend : ByteArray := prog_12_method_88_code
def yX4_toSend : MethodName := ⟨RX4, "toSend", "(III)I"⟩
def dkwX4_toSend_5 : List UInt8 := [21, 5, 172]
abbrev dktX4_toSend_5 : List UInt8 := dkwX4_toSend_5 ++ []
def dkwX4_toSend_4 : List UInt8 := [21, 6, 54, 4, 21, 7, 54, 5, 132, 6, 1, 167, 255, 195, 29, 154, 0, 8, 21, 4, 167, 0, 5]
abbrev dktX4_toSend_4 : List UInt8 := dkwX4_toSend_4 ++ dktX4_toSend_5
def dkwX4_toSend_3 : List UInt8 := [182, 1, 137, 42, 16, 49, 182, 1, 110, 184, 1, 64, 54, 7, 21, 7, 21, 5, 161, 0, 6, 167, 0, 11]
abbrev dktX4_toSend_3 : List UInt8 := dkwX4_toSend_3 ++ dktX4_toSend_4
def dkwX4_toSend_2 : List UInt8 := [180, 0, 7, 162, 0, 58, 42, 182, 1, 134, 42, 180, 0, 66, 16, 86, 27, 96, 21, 6, 79, 42, 28]
abbrev dktX4_toSend_2 : List UInt8 := dkwX4_toSend_2 ++ dktX4_toSend_3
def dkwX4_toSend_1 : List UInt8 := [4, 5, 182, 1, 140, 154, 0, 5, 3, 172, 2, 54, 4, 19, 1, 150, 54, 5, 3, 54, 6, 21, 6, 42]
abbrev dktX4_toSend_1 : List UInt8 := dkwX4_toSend_1 ++ dktX4_toSend_2
def dkwX4_toSend_0 : List UInt8 := [42, 3, 181, 0, 117, 42, 27, 182, 1, 125, 153, 0, 22, 42, 29, 4, 182, 1, 122, 153, 0, 13, 42, 28]
abbrev dktX4_toSend_0 : List UInt8 := dkwX4_toSend_0 ++ dktX4_toSend_1
theorem dksX4_toSend_0 : cX4_toSend.data.toList.drop 0 = dktX4_toSend_0 := by decide +kernel
theorem dksX4_toSend_1 : cX4_toSend.data.toList.drop 24 = dktX4_toSend_1 := dk_seg dksX4_toSend_0 24 rfl rfl
theorem dksX4_toSend_2 : cX4_toSend.data.toList.drop 48 = dktX4_toSend_2 := dk_seg dksX4_toSend_1 24 rfl rfl
theorem dksX4_toSend_3 : cX4_toSend.data.toList.drop 71 = dktX4_toSend_3 := dk_seg dksX4_toSend_2 23 rfl rfl
theorem dksX4_toSend_4 : cX4_toSend.data.toList.drop 95 = dktX4_toSend_4 := dk_seg dksX4_toSend_3 24 rfl rfl
theorem dksX4_toSend_5 : cX4_toSend.data.toList.drop 118 = dktX4_toSend_5 := dk_seg dksX4_toSend_4 23 rfl rfl
theorem dX4_toSend_0 : decode cX4_toSend 0 = .ok (.aload_n 0, 1) := dk_42 (dk_at dksX4_toSend_0 0 rfl rfl)
theorem dX4_toSend_1 : decode cX4_toSend 1 = .ok (.iconst 0, 1) := dk_3 (dk_at dksX4_toSend_0 1 rfl rfl)
theorem dX4_toSend_2 : decode cX4_toSend 2 = .ok (.putfield 117, 3) := dk_181 0 117 (dk_at dksX4_toSend_0 2 rfl rfl)
theorem dX4_toSend_5 : decode cX4_toSend 5 = .ok (.aload_n 0, 1) := dk_42 (dk_at dksX4_toSend_0 5 rfl rfl)
theorem dX4_toSend_6 : decode cX4_toSend 6 = .ok (.iload_n 1, 1) := dk_27 (dk_at dksX4_toSend_0 6 rfl rfl)
theorem dX4_toSend_7 : decode cX4_toSend 7 = .ok (.invokevirtual 381, 3) := dk_182 1 125 (dk_at dksX4_toSend_0 7 rfl rfl)
theorem dX4_toSend_10 : decode cX4_toSend 10 = .ok (.ifCond .eq 22, 3) := dk_153 0 22 (dk_at dksX4_toSend_0 10 rfl rfl)
theorem dX4_toSend_13 : decode cX4_toSend 13 = .ok (.aload_n 0, 1) := dk_42 (dk_at dksX4_toSend_0 13 rfl rfl)
theorem dX4_toSend_14 : decode cX4_toSend 14 = .ok (.iload_n 3, 1) := dk_29 (dk_at dksX4_toSend_0 14 rfl rfl)
theorem dX4_toSend_15 : decode cX4_toSend 15 = .ok (.iconst 1, 1) := dk_4 (dk_at dksX4_toSend_0 15 rfl rfl)
theorem dX4_toSend_16 : decode cX4_toSend 16 = .ok (.invokevirtual 378, 3) := dk_182 1 122 (dk_at dksX4_toSend_0 16 rfl rfl)
theorem dX4_toSend_19 : decode cX4_toSend 19 = .ok (.ifCond .eq 13, 3) := dk_153 0 13 (dk_at dksX4_toSend_0 19 rfl rfl)
theorem dX4_toSend_22 : decode cX4_toSend 22 = .ok (.aload_n 0, 1) := dk_42 (dk_at dksX4_toSend_0 22 rfl rfl)
theorem dX4_toSend_23 : decode cX4_toSend 23 = .ok (.iload_n 2, 1) := dk_28 (dk_at dksX4_toSend_0 23 rfl rfl)
theorem dX4_toSend_24 : decode cX4_toSend 24 = .ok (.iconst 1, 1) := dk_4 (dk_at dksX4_toSend_1 0 rfl rfl)
theorem dX4_toSend_25 : decode cX4_toSend 25 = .ok (.iconst 2, 1) := dk_5 (dk_at dksX4_toSend_1 1 rfl rfl)
theorem dX4_toSend_26 : decode cX4_toSend 26 = .ok (.invokevirtual 396, 3) := dk_182 1 140 (dk_at dksX4_toSend_1 2 rfl rfl)
theorem dX4_toSend_29 : decode cX4_toSend 29 = .ok (.ifCond .ne 5, 3) := dk_154 0 5 (dk_at dksX4_toSend_1 5 rfl rfl)
theorem dX4_toSend_32 : decode cX4_toSend 32 = .ok (.iconst 0, 1) := dk_3 (dk_at dksX4_toSend_1 8 rfl rfl)
theorem dX4_toSend_33 : decode cX4_toSend 33 = .ok (.ireturn, 1) := dk_172 (dk_at dksX4_toSend_1 9 rfl rfl)
theorem dX4_toSend_34 : decode cX4_toSend 34 = .ok (.iconst (-1), 1) := dk_2 (dk_at dksX4_toSend_1 10 rfl rfl)
theorem dX4_toSend_35 : decode cX4_toSend 35 = .ok (.istore 4, 2) := dk_54 4 (dk_at dksX4_toSend_1 11 rfl rfl)
theorem dX4_toSend_37 : decode cX4_toSend 37 = .ok (.ldc_w 406, 3) := dk_19 1 150 (dk_at dksX4_toSend_1 13 rfl rfl)
theorem dX4_toSend_40 : decode cX4_toSend 40 = .ok (.istore 5, 2) := dk_54 5 (dk_at dksX4_toSend_1 16 rfl rfl)
theorem dX4_toSend_42 : decode cX4_toSend 42 = .ok (.iconst 0, 1) := dk_3 (dk_at dksX4_toSend_1 18 rfl rfl)
theorem dX4_toSend_43 : decode cX4_toSend 43 = .ok (.istore 6, 2) := dk_54 6 (dk_at dksX4_toSend_1 19 rfl rfl)
theorem dX4_toSend_45 : decode cX4_toSend 45 = .ok (.iload 6, 2) := dk_21 6 (dk_at dksX4_toSend_1 21 rfl rfl)
theorem dX4_toSend_47 : decode cX4_toSend 47 = .ok (.aload_n 0, 1) := dk_42 (dk_at dksX4_toSend_1 23 rfl rfl)
theorem dX4_toSend_48 : decode cX4_toSend 48 = .ok (.getfield 7, 3) := dk_180 0 7 (dk_at dksX4_toSend_2 0 rfl rfl)
theorem dX4_toSend_51 : decode cX4_toSend 51 = .ok (.if_icmp .ge 58, 3) := dk_162 0 58 (dk_at dksX4_toSend_2 3 rfl rfl)
theorem dX4_toSend_54 : decode cX4_toSend 54 = .ok (.aload_n 0, 1) := dk_42 (dk_at dksX4_toSend_2 6 rfl rfl)
theorem dX4_toSend_55 : decode cX4_toSend 55 = .ok (.invokevirtual 390, 3) := dk_182 1 134 (dk_at dksX4_toSend_2 7 rfl rfl)
theorem dX4_toSend_58 : decode cX4_toSend 58 = .ok (.aload_n 0, 1) := dk_42 (dk_at dksX4_toSend_2 10 rfl rfl)
theorem dX4_toSend_59 : decode cX4_toSend 59 = .ok (.getfield 66, 3) := dk_180 0 66 (dk_at dksX4_toSend_2 11 rfl rfl)
theorem dX4_toSend_62 : decode cX4_toSend 62 = .ok (.bipush 86, 2) := dk_16 86 (dk_at dksX4_toSend_2 14 rfl rfl)
theorem dX4_toSend_64 : decode cX4_toSend 64 = .ok (.iload_n 1, 1) := dk_27 (dk_at dksX4_toSend_2 16 rfl rfl)
theorem dX4_toSend_65 : decode cX4_toSend 65 = .ok (.iadd, 1) := dk_96 (dk_at dksX4_toSend_2 17 rfl rfl)
theorem dX4_toSend_66 : decode cX4_toSend 66 = .ok (.iload 6, 2) := dk_21 6 (dk_at dksX4_toSend_2 18 rfl rfl)
theorem dX4_toSend_68 : decode cX4_toSend 68 = .ok (.iastore, 1) := dk_79 (dk_at dksX4_toSend_2 20 rfl rfl)
theorem dX4_toSend_69 : decode cX4_toSend 69 = .ok (.aload_n 0, 1) := dk_42 (dk_at dksX4_toSend_2 21 rfl rfl)
theorem dX4_toSend_70 : decode cX4_toSend 70 = .ok (.iload_n 2, 1) := dk_28 (dk_at dksX4_toSend_2 22 rfl rfl)
theorem dX4_toSend_71 : decode cX4_toSend 71 = .ok (.invokevirtual 393, 3) := dk_182 1 137 (dk_at dksX4_toSend_3 0 rfl rfl)
theorem dX4_toSend_74 : decode cX4_toSend 74 = .ok (.aload_n 0, 1) := dk_42 (dk_at dksX4_toSend_3 3 rfl rfl)
theorem dX4_toSend_75 : decode cX4_toSend 75 = .ok (.bipush 49, 2) := dk_16 49 (dk_at dksX4_toSend_3 4 rfl rfl)
theorem dX4_toSend_77 : decode cX4_toSend 77 = .ok (.invokevirtual 366, 3) := dk_182 1 110 (dk_at dksX4_toSend_3 6 rfl rfl)
theorem dX4_toSend_80 : decode cX4_toSend 80 = .ok (.invokestatic 320, 3) := dk_184 1 64 (dk_at dksX4_toSend_3 9 rfl rfl)
theorem dX4_toSend_83 : decode cX4_toSend 83 = .ok (.istore 7, 2) := dk_54 7 (dk_at dksX4_toSend_3 12 rfl rfl)
theorem dX4_toSend_85 : decode cX4_toSend 85 = .ok (.iload 7, 2) := dk_21 7 (dk_at dksX4_toSend_3 14 rfl rfl)
theorem dX4_toSend_87 : decode cX4_toSend 87 = .ok (.iload 5, 2) := dk_21 5 (dk_at dksX4_toSend_3 16 rfl rfl)
theorem dX4_toSend_89 : decode cX4_toSend 89 = .ok (.if_icmp .lt 6, 3) := dk_161 0 6 (dk_at dksX4_toSend_3 18 rfl rfl)
theorem dX4_toSend_92 : decode cX4_toSend 92 = .ok (.goto 11, 3) := dk_167 0 11 (dk_at dksX4_toSend_3 21 rfl rfl)
theorem dX4_toSend_95 : decode cX4_toSend 95 = .ok (.iload 6, 2) := dk_21 6 (dk_at dksX4_toSend_4 0 rfl rfl)
theorem dX4_toSend_97 : decode cX4_toSend 97 = .ok (.istore 4, 2) := dk_54 4 (dk_at dksX4_toSend_4 2 rfl rfl)
theorem dX4_toSend_99 : decode cX4_toSend 99 = .ok (.iload 7, 2) := dk_21 7 (dk_at dksX4_toSend_4 4 rfl rfl)
theorem dX4_toSend_101 : decode cX4_toSend 101 = .ok (.istore 5, 2) := dk_54 5 (dk_at dksX4_toSend_4 6 rfl rfl)
theorem dX4_toSend_103 : decode cX4_toSend 103 = .ok (.iinc 6 1, 3) := dk_132 6 1 (dk_at dksX4_toSend_4 8 rfl rfl)
theorem dX4_toSend_106 : decode cX4_toSend 106 = .ok (.goto (-61), 3) := dk_167 255 195 (dk_at dksX4_toSend_4 11 rfl rfl)
theorem dX4_toSend_109 : decode cX4_toSend 109 = .ok (.iload_n 3, 1) := dk_29 (dk_at dksX4_toSend_4 14 rfl rfl)
theorem dX4_toSend_110 : decode cX4_toSend 110 = .ok (.ifCond .ne 8, 3) := dk_154 0 8 (dk_at dksX4_toSend_4 15 rfl rfl)
theorem dX4_toSend_113 : decode cX4_toSend 113 = .ok (.iload 4, 2) := dk_21 4 (dk_at dksX4_toSend_4 18 rfl rfl)
theorem dX4_toSend_115 : decode cX4_toSend 115 = .ok (.goto 5, 3) := dk_167 0 5 (dk_at dksX4_toSend_4 20 rfl rfl)
theorem dX4_toSend_118 : decode cX4_toSend 118 = .ok (.iload 5, 2) := dk_21 5 (dk_at dksX4_toSend_5 0 rfl rfl)
theorem dX4_toSend_120 : decode cX4_toSend 120 = .ok (.ireturn, 1) := dk_172 (dk_at dksX4_toSend_5 2 rfl rfl)
abbrev cX4_bestStitch : ByteArray := prog_12_method_89_code
def yX4_bestStitch : MethodName := ⟨RX4, "bestStitch", "(II)I"⟩
def dkwX4_bestStitch_4 : List UInt8 := [167, 255, 196, 29, 172]
abbrev dktX4_bestStitch_4 : List UInt8 := dkwX4_bestStitch_4 ++ []
def dkwX4_bestStitch_3 : List UInt8 := [163, 0, 6, 167, 0, 17, 21, 5, 62, 42, 180, 0, 66, 16, 62, 27, 96, 46, 54, 4, 132, 5, 1]
abbrev dktX4_bestStitch_3 : List UInt8 := dkwX4_bestStitch_3 ++ dktX4_bestStitch_4
def dkwX4_bestStitch_2 : List UInt8 := [16, 74, 27, 96, 21, 5, 79, 42, 28, 182, 1, 137, 42, 180, 0, 66, 16, 62, 27, 96, 46, 21, 4]
abbrev dktX4_bestStitch_2 : List UInt8 := dkwX4_bestStitch_2 ++ dktX4_bestStitch_3
def dkwX4_bestStitch_1 : List UInt8 := [172, 2, 62, 2, 54, 4, 3, 54, 5, 21, 5, 6, 162, 0, 60, 42, 182, 1, 134, 42, 180, 0, 66]
abbrev dktX4_bestStitch_1 : List UInt8 := dkwX4_bestStitch_1 ++ dktX4_bestStitch_2
def dkwX4_bestStitch_0 : List UInt8 := [42, 3, 181, 0, 117, 42, 27, 182, 1, 119, 153, 0, 13, 42, 28, 4, 5, 182, 1, 140, 154, 0, 5, 3]
abbrev dktX4_bestStitch_0 : List UInt8 := dkwX4_bestStitch_0 ++ dktX4_bestStitch_1
theorem dksX4_bestStitch_0 : cX4_bestStitch.data.toList.drop 0 = dktX4_bestStitch_0 := by decide +kernel
theorem dksX4_bestStitch_1 : cX4_bestStitch.data.toList.drop 24 = dktX4_bestStitch_1 := dk_seg dksX4_bestStitch_0 24 rfl rfl
theorem dksX4_bestStitch_2 : cX4_bestStitch.data.toList.drop 47 = dktX4_bestStitch_2 := dk_seg dksX4_bestStitch_1 23 rfl rfl
theorem dksX4_bestStitch_3 : cX4_bestStitch.data.toList.drop 70 = dktX4_bestStitch_3 := dk_seg dksX4_bestStitch_2 23 rfl rfl
theorem dksX4_bestStitch_4 : cX4_bestStitch.data.toList.drop 93 = dktX4_bestStitch_4 := dk_seg dksX4_bestStitch_3 23 rfl rfl
theorem dX4_bestStitch_0 : decode cX4_bestStitch 0 = .ok (.aload_n 0, 1) := dk_42 (dk_at dksX4_bestStitch_0 0 rfl rfl)
theorem dX4_bestStitch_1 : decode cX4_bestStitch 1 = .ok (.iconst 0, 1) := dk_3 (dk_at dksX4_bestStitch_0 1 rfl rfl)
theorem dX4_bestStitch_2 : decode cX4_bestStitch 2 = .ok (.putfield 117, 3) := dk_181 0 117 (dk_at dksX4_bestStitch_0 2 rfl rfl)
theorem dX4_bestStitch_5 : decode cX4_bestStitch 5 = .ok (.aload_n 0, 1) := dk_42 (dk_at dksX4_bestStitch_0 5 rfl rfl)
theorem dX4_bestStitch_6 : decode cX4_bestStitch 6 = .ok (.iload_n 1, 1) := dk_27 (dk_at dksX4_bestStitch_0 6 rfl rfl)
theorem dX4_bestStitch_7 : decode cX4_bestStitch 7 = .ok (.invokevirtual 375, 3) := dk_182 1 119 (dk_at dksX4_bestStitch_0 7 rfl rfl)
theorem dX4_bestStitch_10 : decode cX4_bestStitch 10 = .ok (.ifCond .eq 13, 3) := dk_153 0 13 (dk_at dksX4_bestStitch_0 10 rfl rfl)
theorem dX4_bestStitch_13 : decode cX4_bestStitch 13 = .ok (.aload_n 0, 1) := dk_42 (dk_at dksX4_bestStitch_0 13 rfl rfl)
theorem dX4_bestStitch_14 : decode cX4_bestStitch 14 = .ok (.iload_n 2, 1) := dk_28 (dk_at dksX4_bestStitch_0 14 rfl rfl)
theorem dX4_bestStitch_15 : decode cX4_bestStitch 15 = .ok (.iconst 1, 1) := dk_4 (dk_at dksX4_bestStitch_0 15 rfl rfl)
theorem dX4_bestStitch_16 : decode cX4_bestStitch 16 = .ok (.iconst 2, 1) := dk_5 (dk_at dksX4_bestStitch_0 16 rfl rfl)
theorem dX4_bestStitch_17 : decode cX4_bestStitch 17 = .ok (.invokevirtual 396, 3) := dk_182 1 140 (dk_at dksX4_bestStitch_0 17 rfl rfl)
theorem dX4_bestStitch_20 : decode cX4_bestStitch 20 = .ok (.ifCond .ne 5, 3) := dk_154 0 5 (dk_at dksX4_bestStitch_0 20 rfl rfl)
theorem dX4_bestStitch_23 : decode cX4_bestStitch 23 = .ok (.iconst 0, 1) := dk_3 (dk_at dksX4_bestStitch_0 23 rfl rfl)
theorem dX4_bestStitch_24 : decode cX4_bestStitch 24 = .ok (.ireturn, 1) := dk_172 (dk_at dksX4_bestStitch_1 0 rfl rfl)
theorem dX4_bestStitch_25 : decode cX4_bestStitch 25 = .ok (.iconst (-1), 1) := dk_2 (dk_at dksX4_bestStitch_1 1 rfl rfl)
theorem dX4_bestStitch_26 : decode cX4_bestStitch 26 = .ok (.istore_n 3, 1) := dk_62 (dk_at dksX4_bestStitch_1 2 rfl rfl)
theorem dX4_bestStitch_27 : decode cX4_bestStitch 27 = .ok (.iconst (-1), 1) := dk_2 (dk_at dksX4_bestStitch_1 3 rfl rfl)
theorem dX4_bestStitch_28 : decode cX4_bestStitch 28 = .ok (.istore 4, 2) := dk_54 4 (dk_at dksX4_bestStitch_1 4 rfl rfl)
theorem dX4_bestStitch_30 : decode cX4_bestStitch 30 = .ok (.iconst 0, 1) := dk_3 (dk_at dksX4_bestStitch_1 6 rfl rfl)
theorem dX4_bestStitch_31 : decode cX4_bestStitch 31 = .ok (.istore 5, 2) := dk_54 5 (dk_at dksX4_bestStitch_1 7 rfl rfl)
theorem dX4_bestStitch_33 : decode cX4_bestStitch 33 = .ok (.iload 5, 2) := dk_21 5 (dk_at dksX4_bestStitch_1 9 rfl rfl)
theorem dX4_bestStitch_35 : decode cX4_bestStitch 35 = .ok (.iconst 3, 1) := dk_6 (dk_at dksX4_bestStitch_1 11 rfl rfl)
theorem dX4_bestStitch_36 : decode cX4_bestStitch 36 = .ok (.if_icmp .ge 60, 3) := dk_162 0 60 (dk_at dksX4_bestStitch_1 12 rfl rfl)
theorem dX4_bestStitch_39 : decode cX4_bestStitch 39 = .ok (.aload_n 0, 1) := dk_42 (dk_at dksX4_bestStitch_1 15 rfl rfl)
theorem dX4_bestStitch_40 : decode cX4_bestStitch 40 = .ok (.invokevirtual 390, 3) := dk_182 1 134 (dk_at dksX4_bestStitch_1 16 rfl rfl)
theorem dX4_bestStitch_43 : decode cX4_bestStitch 43 = .ok (.aload_n 0, 1) := dk_42 (dk_at dksX4_bestStitch_1 19 rfl rfl)
theorem dX4_bestStitch_44 : decode cX4_bestStitch 44 = .ok (.getfield 66, 3) := dk_180 0 66 (dk_at dksX4_bestStitch_1 20 rfl rfl)
theorem dX4_bestStitch_47 : decode cX4_bestStitch 47 = .ok (.bipush 74, 2) := dk_16 74 (dk_at dksX4_bestStitch_2 0 rfl rfl)
theorem dX4_bestStitch_49 : decode cX4_bestStitch 49 = .ok (.iload_n 1, 1) := dk_27 (dk_at dksX4_bestStitch_2 2 rfl rfl)
theorem dX4_bestStitch_50 : decode cX4_bestStitch 50 = .ok (.iadd, 1) := dk_96 (dk_at dksX4_bestStitch_2 3 rfl rfl)
theorem dX4_bestStitch_51 : decode cX4_bestStitch 51 = .ok (.iload 5, 2) := dk_21 5 (dk_at dksX4_bestStitch_2 4 rfl rfl)
theorem dX4_bestStitch_53 : decode cX4_bestStitch 53 = .ok (.iastore, 1) := dk_79 (dk_at dksX4_bestStitch_2 6 rfl rfl)
theorem dX4_bestStitch_54 : decode cX4_bestStitch 54 = .ok (.aload_n 0, 1) := dk_42 (dk_at dksX4_bestStitch_2 7 rfl rfl)
theorem dX4_bestStitch_55 : decode cX4_bestStitch 55 = .ok (.iload_n 2, 1) := dk_28 (dk_at dksX4_bestStitch_2 8 rfl rfl)
theorem dX4_bestStitch_56 : decode cX4_bestStitch 56 = .ok (.invokevirtual 393, 3) := dk_182 1 137 (dk_at dksX4_bestStitch_2 9 rfl rfl)
theorem dX4_bestStitch_59 : decode cX4_bestStitch 59 = .ok (.aload_n 0, 1) := dk_42 (dk_at dksX4_bestStitch_2 12 rfl rfl)
theorem dX4_bestStitch_60 : decode cX4_bestStitch 60 = .ok (.getfield 66, 3) := dk_180 0 66 (dk_at dksX4_bestStitch_2 13 rfl rfl)
theorem dX4_bestStitch_63 : decode cX4_bestStitch 63 = .ok (.bipush 62, 2) := dk_16 62 (dk_at dksX4_bestStitch_2 16 rfl rfl)
theorem dX4_bestStitch_65 : decode cX4_bestStitch 65 = .ok (.iload_n 1, 1) := dk_27 (dk_at dksX4_bestStitch_2 18 rfl rfl)
theorem dX4_bestStitch_66 : decode cX4_bestStitch 66 = .ok (.iadd, 1) := dk_96 (dk_at dksX4_bestStitch_2 19 rfl rfl)
theorem dX4_bestStitch_67 : decode cX4_bestStitch 67 = .ok (.iaload, 1) := dk_46 (dk_at dksX4_bestStitch_2 20 rfl rfl)
theorem dX4_bestStitch_68 : decode cX4_bestStitch 68 = .ok (.iload 4, 2) := dk_21 4 (dk_at dksX4_bestStitch_2 21 rfl rfl)
theorem dX4_bestStitch_70 : decode cX4_bestStitch 70 = .ok (.if_icmp .gt 6, 3) := dk_163 0 6 (dk_at dksX4_bestStitch_3 0 rfl rfl)
theorem dX4_bestStitch_73 : decode cX4_bestStitch 73 = .ok (.goto 17, 3) := dk_167 0 17 (dk_at dksX4_bestStitch_3 3 rfl rfl)
theorem dX4_bestStitch_76 : decode cX4_bestStitch 76 = .ok (.iload 5, 2) := dk_21 5 (dk_at dksX4_bestStitch_3 6 rfl rfl)
theorem dX4_bestStitch_78 : decode cX4_bestStitch 78 = .ok (.istore_n 3, 1) := dk_62 (dk_at dksX4_bestStitch_3 8 rfl rfl)
theorem dX4_bestStitch_79 : decode cX4_bestStitch 79 = .ok (.aload_n 0, 1) := dk_42 (dk_at dksX4_bestStitch_3 9 rfl rfl)
theorem dX4_bestStitch_80 : decode cX4_bestStitch 80 = .ok (.getfield 66, 3) := dk_180 0 66 (dk_at dksX4_bestStitch_3 10 rfl rfl)
theorem dX4_bestStitch_83 : decode cX4_bestStitch 83 = .ok (.bipush 62, 2) := dk_16 62 (dk_at dksX4_bestStitch_3 13 rfl rfl)
theorem dX4_bestStitch_85 : decode cX4_bestStitch 85 = .ok (.iload_n 1, 1) := dk_27 (dk_at dksX4_bestStitch_3 15 rfl rfl)
theorem dX4_bestStitch_86 : decode cX4_bestStitch 86 = .ok (.iadd, 1) := dk_96 (dk_at dksX4_bestStitch_3 16 rfl rfl)
theorem dX4_bestStitch_87 : decode cX4_bestStitch 87 = .ok (.iaload, 1) := dk_46 (dk_at dksX4_bestStitch_3 17 rfl rfl)
theorem dX4_bestStitch_88 : decode cX4_bestStitch 88 = .ok (.istore 4, 2) := dk_54 4 (dk_at dksX4_bestStitch_3 18 rfl rfl)
theorem dX4_bestStitch_90 : decode cX4_bestStitch 90 = .ok (.iinc 5 1, 3) := dk_132 5 1 (dk_at dksX4_bestStitch_3 20 rfl rfl)
theorem dX4_bestStitch_93 : decode cX4_bestStitch 93 = .ok (.goto (-60), 3) := dk_167 255 196 (dk_at dksX4_bestStitch_4 0 rfl rfl)
theorem dX4_bestStitch_96 : decode cX4_bestStitch 96 = .ok (.iload_n 3, 1) := dk_29 (dk_at dksX4_bestStitch_4 3 rfl rfl)
theorem dX4_bestStitch_97 : decode cX4_bestStitch 97 = .ok (.ireturn, 1) := dk_172 (dk_at dksX4_bestStitch_4 4 rfl rfl)
abbrev cX4_stepsBy : ByteArray := prog_12_method_90_code
def yX4_stepsBy : MethodName := ⟨RX4, "stepsBy", "(II)I"⟩
def dkwX4_stepsBy_1 : List UInt8 := [184, 1, 80, 172]
abbrev dktX4_stepsBy_1 : List UInt8 := dkwX4_stepsBy_1 ++ []
def dkwX4_stepsBy_0 : List UInt8 := [27, 28, 162, 0, 9, 28, 27, 100, 167, 0, 6, 27, 28, 100, 62, 29, 42, 180, 0, 7, 29, 100]
abbrev dktX4_stepsBy_0 : List UInt8 := dkwX4_stepsBy_0 ++ dktX4_stepsBy_1
theorem dksX4_stepsBy_0 : cX4_stepsBy.data.toList.drop 0 = dktX4_stepsBy_0 := by decide +kernel
theorem dksX4_stepsBy_1 : cX4_stepsBy.data.toList.drop 22 = dktX4_stepsBy_1 := dk_seg dksX4_stepsBy_0 22 rfl rfl
theorem dX4_stepsBy_0 : decode cX4_stepsBy 0 = .ok (.iload_n 1, 1) := dk_27 (dk_at dksX4_stepsBy_0 0 rfl rfl)
theorem dX4_stepsBy_1 : decode cX4_stepsBy 1 = .ok (.iload_n 2, 1) := dk_28 (dk_at dksX4_stepsBy_0 1 rfl rfl)
theorem dX4_stepsBy_2 : decode cX4_stepsBy 2 = .ok (.if_icmp .ge 9, 3) := dk_162 0 9 (dk_at dksX4_stepsBy_0 2 rfl rfl)
theorem dX4_stepsBy_5 : decode cX4_stepsBy 5 = .ok (.iload_n 2, 1) := dk_28 (dk_at dksX4_stepsBy_0 5 rfl rfl)
theorem dX4_stepsBy_6 : decode cX4_stepsBy 6 = .ok (.iload_n 1, 1) := dk_27 (dk_at dksX4_stepsBy_0 6 rfl rfl)
theorem dX4_stepsBy_7 : decode cX4_stepsBy 7 = .ok (.isub, 1) := dk_100 (dk_at dksX4_stepsBy_0 7 rfl rfl)
theorem dX4_stepsBy_8 : decode cX4_stepsBy 8 = .ok (.goto 6, 3) := dk_167 0 6 (dk_at dksX4_stepsBy_0 8 rfl rfl)
theorem dX4_stepsBy_11 : decode cX4_stepsBy 11 = .ok (.iload_n 1, 1) := dk_27 (dk_at dksX4_stepsBy_0 11 rfl rfl)
theorem dX4_stepsBy_12 : decode cX4_stepsBy 12 = .ok (.iload_n 2, 1) := dk_28 (dk_at dksX4_stepsBy_0 12 rfl rfl)
theorem dX4_stepsBy_13 : decode cX4_stepsBy 13 = .ok (.isub, 1) := dk_100 (dk_at dksX4_stepsBy_0 13 rfl rfl)
theorem dX4_stepsBy_14 : decode cX4_stepsBy 14 = .ok (.istore_n 3, 1) := dk_62 (dk_at dksX4_stepsBy_0 14 rfl rfl)
theorem dX4_stepsBy_15 : decode cX4_stepsBy 15 = .ok (.iload_n 3, 1) := dk_29 (dk_at dksX4_stepsBy_0 15 rfl rfl)
theorem dX4_stepsBy_16 : decode cX4_stepsBy 16 = .ok (.aload_n 0, 1) := dk_42 (dk_at dksX4_stepsBy_0 16 rfl rfl)
theorem dX4_stepsBy_17 : decode cX4_stepsBy 17 = .ok (.getfield 7, 3) := dk_180 0 7 (dk_at dksX4_stepsBy_0 17 rfl rfl)
theorem dX4_stepsBy_20 : decode cX4_stepsBy 20 = .ok (.iload_n 3, 1) := dk_29 (dk_at dksX4_stepsBy_0 20 rfl rfl)
theorem dX4_stepsBy_21 : decode cX4_stepsBy 21 = .ok (.isub, 1) := dk_100 (dk_at dksX4_stepsBy_0 21 rfl rfl)
theorem dX4_stepsBy_22 : decode cX4_stepsBy 22 = .ok (.invokestatic 336, 3) := dk_184 1 80 (dk_at dksX4_stepsBy_1 0 rfl rfl)
theorem dX4_stepsBy_25 : decode cX4_stepsBy 25 = .ok (.ireturn, 1) := dk_172 (dk_at dksX4_stepsBy_1 3 rfl rfl)
abbrev cX4_byWoman : ByteArray := prog_12_method_91_code
def yX4_byWoman : MethodName := ⟨RX4, "byWoman", "(III)I"⟩
def dkwX4_byWoman_1 : List UInt8 := [16, 64, 27, 4, 96, 104, 29, 4, 28, 120, 128, 96, 46, 96, 172]
abbrev dktX4_byWoman_1 : List UInt8 := dkwX4_byWoman_1 ++ []
def dkwX4_byWoman_0 : List UInt8 := [42, 42, 180, 0, 66, 16, 37, 28, 96, 46, 42, 180, 0, 84, 27, 46, 182, 1, 154, 42, 180, 0, 81]
abbrev dktX4_byWoman_0 : List UInt8 := dkwX4_byWoman_0 ++ dktX4_byWoman_1
theorem dksX4_byWoman_0 : cX4_byWoman.data.toList.drop 0 = dktX4_byWoman_0 := by decide +kernel
theorem dksX4_byWoman_1 : cX4_byWoman.data.toList.drop 23 = dktX4_byWoman_1 := dk_seg dksX4_byWoman_0 23 rfl rfl
theorem dX4_byWoman_0 : decode cX4_byWoman 0 = .ok (.aload_n 0, 1) := dk_42 (dk_at dksX4_byWoman_0 0 rfl rfl)
theorem dX4_byWoman_1 : decode cX4_byWoman 1 = .ok (.aload_n 0, 1) := dk_42 (dk_at dksX4_byWoman_0 1 rfl rfl)
theorem dX4_byWoman_2 : decode cX4_byWoman 2 = .ok (.getfield 66, 3) := dk_180 0 66 (dk_at dksX4_byWoman_0 2 rfl rfl)
theorem dX4_byWoman_5 : decode cX4_byWoman 5 = .ok (.bipush 37, 2) := dk_16 37 (dk_at dksX4_byWoman_0 5 rfl rfl)
theorem dX4_byWoman_7 : decode cX4_byWoman 7 = .ok (.iload_n 2, 1) := dk_28 (dk_at dksX4_byWoman_0 7 rfl rfl)
theorem dX4_byWoman_8 : decode cX4_byWoman 8 = .ok (.iadd, 1) := dk_96 (dk_at dksX4_byWoman_0 8 rfl rfl)
theorem dX4_byWoman_9 : decode cX4_byWoman 9 = .ok (.iaload, 1) := dk_46 (dk_at dksX4_byWoman_0 9 rfl rfl)
theorem dX4_byWoman_10 : decode cX4_byWoman 10 = .ok (.aload_n 0, 1) := dk_42 (dk_at dksX4_byWoman_0 10 rfl rfl)
theorem dX4_byWoman_11 : decode cX4_byWoman 11 = .ok (.getfield 84, 3) := dk_180 0 84 (dk_at dksX4_byWoman_0 11 rfl rfl)
theorem dX4_byWoman_14 : decode cX4_byWoman 14 = .ok (.iload_n 1, 1) := dk_27 (dk_at dksX4_byWoman_0 14 rfl rfl)
theorem dX4_byWoman_15 : decode cX4_byWoman 15 = .ok (.iaload, 1) := dk_46 (dk_at dksX4_byWoman_0 15 rfl rfl)
theorem dX4_byWoman_16 : decode cX4_byWoman 16 = .ok (.invokevirtual 410, 3) := dk_182 1 154 (dk_at dksX4_byWoman_0 16 rfl rfl)
theorem dX4_byWoman_19 : decode cX4_byWoman 19 = .ok (.aload_n 0, 1) := dk_42 (dk_at dksX4_byWoman_0 19 rfl rfl)
theorem dX4_byWoman_20 : decode cX4_byWoman 20 = .ok (.getfield 81, 3) := dk_180 0 81 (dk_at dksX4_byWoman_0 20 rfl rfl)
theorem dX4_byWoman_23 : decode cX4_byWoman 23 = .ok (.bipush 64, 2) := dk_16 64 (dk_at dksX4_byWoman_1 0 rfl rfl)
theorem dX4_byWoman_25 : decode cX4_byWoman 25 = .ok (.iload_n 1, 1) := dk_27 (dk_at dksX4_byWoman_1 2 rfl rfl)
theorem dX4_byWoman_26 : decode cX4_byWoman 26 = .ok (.iconst 1, 1) := dk_4 (dk_at dksX4_byWoman_1 3 rfl rfl)
theorem dX4_byWoman_27 : decode cX4_byWoman 27 = .ok (.iadd, 1) := dk_96 (dk_at dksX4_byWoman_1 4 rfl rfl)
theorem dX4_byWoman_28 : decode cX4_byWoman 28 = .ok (.imul, 1) := dk_104 (dk_at dksX4_byWoman_1 5 rfl rfl)
theorem dX4_byWoman_29 : decode cX4_byWoman 29 = .ok (.iload_n 3, 1) := dk_29 (dk_at dksX4_byWoman_1 6 rfl rfl)
theorem dX4_byWoman_30 : decode cX4_byWoman 30 = .ok (.iconst 1, 1) := dk_4 (dk_at dksX4_byWoman_1 7 rfl rfl)
theorem dX4_byWoman_31 : decode cX4_byWoman 31 = .ok (.iload_n 2, 1) := dk_28 (dk_at dksX4_byWoman_1 8 rfl rfl)
theorem dX4_byWoman_32 : decode cX4_byWoman 32 = .ok (.ishl, 1) := dk_120 (dk_at dksX4_byWoman_1 9 rfl rfl)
theorem dX4_byWoman_33 : decode cX4_byWoman 33 = .ok (.ior, 1) := dk_128 (dk_at dksX4_byWoman_1 10 rfl rfl)
theorem dX4_byWoman_34 : decode cX4_byWoman 34 = .ok (.iadd, 1) := dk_96 (dk_at dksX4_byWoman_1 11 rfl rfl)
theorem dX4_byWoman_35 : decode cX4_byWoman 35 = .ok (.iaload, 1) := dk_46 (dk_at dksX4_byWoman_1 12 rfl rfl)
theorem dX4_byWoman_36 : decode cX4_byWoman 36 = .ok (.iadd, 1) := dk_96 (dk_at dksX4_byWoman_1 13 rfl rfl)
theorem dX4_byWoman_37 : decode cX4_byWoman 37 = .ok (.ireturn, 1) := dk_172 (dk_at dksX4_byWoman_1 14 rfl rfl)
abbrev cX4_sent : ByteArray := prog_12_method_92_code
def yX4_sent : MethodName := ⟨RX4, "sent", "(II)I"⟩
def dkwX4_sent_16 : List UInt8 := [21, 5, 120, 128, 54, 4, 132, 6, 1, 167, 255, 165, 21, 5, 172]
abbrev dktX4_sent_16 : List UInt8 := dkwX4_sent_16 ++ []
def dkwX4_sent_15 : List UInt8 := [132, 7, 255, 167, 255, 208, 42, 180, 0, 84, 21, 6, 46, 28, 160, 0, 6, 21, 5, 172, 21, 4, 4]
abbrev dktX4_sent_15 : List UInt8 := dkwX4_sent_15 ++ dktX4_sent_16
def dkwX4_sent_14 : List UInt8 := [182, 1, 157, 42, 180, 0, 81, 16, 64, 21, 6, 104, 21, 4, 96, 46, 160, 0, 7, 21, 7, 54, 5]
abbrev dktX4_sent_14 : List UInt8 := dkwX4_sent_14 ++ dktX4_sent_15
def dkwX4_sent_13 : List UInt8 := [54, 7, 21, 7, 155, 0, 49, 21, 4, 21, 7, 122, 4, 126, 154, 0, 33, 42, 21, 6, 21, 7, 21, 4]
abbrev dktX4_sent_13 : List UInt8 := dkwX4_sent_13 ++ dktX4_sent_14
def dkwX4_sent_12 : List UInt8 := [3, 46, 172, 3, 54, 4, 2, 54, 5, 3, 54, 6, 21, 6, 29, 162, 0, 91, 42, 180, 1, 28, 4, 100]
abbrev dktX4_sent_12 : List UInt8 := dkwX4_sent_12 ++ dktX4_sent_13
def dkwX4_sent_11 : List UInt8 := [21, 6, 79, 132, 5, 1, 167, 255, 177, 132, 4, 255, 167, 255, 163, 28, 2, 160, 0, 10, 42, 180, 0, 81]
abbrev dktX4_sent_11 : List UInt8 := dkwX4_sent_11 ++ dktX4_sent_12
def dkwX4_sent_10 : List UInt8 := [184, 1, 80, 54, 6, 132, 7, 1, 167, 255, 217, 42, 180, 0, 81, 16, 64, 21, 4, 104, 21, 5, 96]
abbrev dktX4_sent_10 : List UInt8 := dkwX4_sent_10 ++ dktX4_sent_11
def dkwX4_sent_9 : List UInt8 := [21, 5, 21, 7, 122, 4, 126, 154, 0, 20, 21, 6, 42, 21, 4, 21, 7, 21, 5, 182, 1, 157]
abbrev dktX4_sent_9 : List UInt8 := dkwX4_sent_9 ++ dktX4_sent_10
def dkwX4_sent_8 : List UInt8 := [180, 1, 28, 120, 162, 0, 74, 19, 1, 150, 54, 6, 3, 54, 7, 21, 7, 42, 180, 1, 28, 162, 0, 36]
abbrev dktX4_sent_8 : List UInt8 := dkwX4_sent_8 ++ dktX4_sent_9
def dkwX4_sent_7 : List UInt8 := [132, 4, 1, 167, 255, 233, 29, 4, 100, 54, 4, 21, 4, 155, 0, 94, 3, 54, 5, 21, 5, 4, 42]
abbrev dktX4_sent_7 : List UInt8 := dkwX4_sent_7 ++ dktX4_sent_8
def dkwX4_sent_6 : List UInt8 := [54, 4, 21, 4, 16, 64, 162, 0, 22, 42, 180, 0, 81, 16, 64, 29, 104, 21, 4, 96, 3, 79]
abbrev dktX4_sent_6 : List UInt8 := dkwX4_sent_6 ++ dktX4_sent_7
def dkwX4_sent_5 : List UInt8 := [21, 4, 79, 132, 3, 1, 132, 4, 1, 167, 255, 221, 29, 42, 180, 1, 28, 164, 0, 6, 16, 254, 172, 3]
abbrev dktX4_sent_5 : List UInt8 := dkwX4_sent_5 ++ dktX4_sent_6
def dkwX4_sent_4 : List UInt8 := [180, 0, 7, 162, 0, 32, 27, 21, 4, 122, 4, 126, 154, 0, 6, 167, 0, 14, 42, 180, 0, 84, 29]
abbrev dktX4_sent_4 : List UInt8 := dkwX4_sent_4 ++ dktX4_sent_5
def dkwX4_sent_3 : List UInt8 := [4, 167, 0, 4, 3, 4, 182, 1, 21, 154, 0, 5, 3, 172, 3, 62, 3, 54, 4, 21, 4, 42]
abbrev dktX4_sent_3 : List UInt8 := dkwX4_sent_3 ++ dktX4_sent_4
def dkwX4_sent_2 : List UInt8 := [159, 0, 24, 28, 155, 0, 24, 28, 42, 180, 0, 7, 162, 0, 16, 27, 28, 122, 4, 126, 4, 160, 0, 7]
abbrev dktX4_sent_2 : List UInt8 := dkwX4_sent_2 ++ dktX4_sent_3
def dkwX4_sent_1 : List UInt8 := [16, 6, 163, 0, 7, 4, 167, 0, 4, 3, 5, 182, 1, 21, 154, 0, 5, 3, 172, 42, 28, 2]
abbrev dktX4_sent_1 : List UInt8 := dkwX4_sent_1 ++ dktX4_sent_2
def dkwX4_sent_0 : List UInt8 := [42, 3, 181, 0, 117, 42, 27, 155, 0, 26, 27, 4, 42, 180, 0, 7, 120, 162, 0, 16, 27, 184, 1, 64]
abbrev dktX4_sent_0 : List UInt8 := dkwX4_sent_0 ++ dktX4_sent_1
theorem dksX4_sent_0 : cX4_sent.data.toList.drop 0 = dktX4_sent_0 := by decide +kernel
theorem dksX4_sent_1 : cX4_sent.data.toList.drop 24 = dktX4_sent_1 := dk_seg dksX4_sent_0 24 rfl rfl
theorem dksX4_sent_2 : cX4_sent.data.toList.drop 46 = dktX4_sent_2 := dk_seg dksX4_sent_1 22 rfl rfl
theorem dksX4_sent_3 : cX4_sent.data.toList.drop 70 = dktX4_sent_3 := dk_seg dksX4_sent_2 24 rfl rfl
theorem dksX4_sent_4 : cX4_sent.data.toList.drop 92 = dktX4_sent_4 := dk_seg dksX4_sent_3 22 rfl rfl
theorem dksX4_sent_5 : cX4_sent.data.toList.drop 115 = dktX4_sent_5 := dk_seg dksX4_sent_4 23 rfl rfl
theorem dksX4_sent_6 : cX4_sent.data.toList.drop 139 = dktX4_sent_6 := dk_seg dksX4_sent_5 24 rfl rfl
theorem dksX4_sent_7 : cX4_sent.data.toList.drop 161 = dktX4_sent_7 := dk_seg dksX4_sent_6 22 rfl rfl
theorem dksX4_sent_8 : cX4_sent.data.toList.drop 184 = dktX4_sent_8 := dk_seg dksX4_sent_7 23 rfl rfl
theorem dksX4_sent_9 : cX4_sent.data.toList.drop 208 = dktX4_sent_9 := dk_seg dksX4_sent_8 24 rfl rfl
theorem dksX4_sent_10 : cX4_sent.data.toList.drop 230 = dktX4_sent_10 := dk_seg dksX4_sent_9 22 rfl rfl
theorem dksX4_sent_11 : cX4_sent.data.toList.drop 253 = dktX4_sent_11 := dk_seg dksX4_sent_10 23 rfl rfl
theorem dksX4_sent_12 : cX4_sent.data.toList.drop 277 = dktX4_sent_12 := dk_seg dksX4_sent_11 24 rfl rfl
theorem dksX4_sent_13 : cX4_sent.data.toList.drop 301 = dktX4_sent_13 := dk_seg dksX4_sent_12 24 rfl rfl
theorem dksX4_sent_14 : cX4_sent.data.toList.drop 325 = dktX4_sent_14 := dk_seg dksX4_sent_13 24 rfl rfl
theorem dksX4_sent_15 : cX4_sent.data.toList.drop 348 = dktX4_sent_15 := dk_seg dksX4_sent_14 23 rfl rfl
theorem dksX4_sent_16 : cX4_sent.data.toList.drop 371 = dktX4_sent_16 := dk_seg dksX4_sent_15 23 rfl rfl
theorem dX4_sent_0 : decode cX4_sent 0 = .ok (.aload_n 0, 1) := dk_42 (dk_at dksX4_sent_0 0 rfl rfl)
theorem dX4_sent_1 : decode cX4_sent 1 = .ok (.iconst 0, 1) := dk_3 (dk_at dksX4_sent_0 1 rfl rfl)
theorem dX4_sent_2 : decode cX4_sent 2 = .ok (.putfield 117, 3) := dk_181 0 117 (dk_at dksX4_sent_0 2 rfl rfl)
theorem dX4_sent_5 : decode cX4_sent 5 = .ok (.aload_n 0, 1) := dk_42 (dk_at dksX4_sent_0 5 rfl rfl)
theorem dX4_sent_6 : decode cX4_sent 6 = .ok (.iload_n 1, 1) := dk_27 (dk_at dksX4_sent_0 6 rfl rfl)
theorem dX4_sent_7 : decode cX4_sent 7 = .ok (.ifCond .lt 26, 3) := dk_155 0 26 (dk_at dksX4_sent_0 7 rfl rfl)
theorem dX4_sent_10 : decode cX4_sent 10 = .ok (.iload_n 1, 1) := dk_27 (dk_at dksX4_sent_0 10 rfl rfl)
theorem dX4_sent_11 : decode cX4_sent 11 = .ok (.iconst 1, 1) := dk_4 (dk_at dksX4_sent_0 11 rfl rfl)
theorem dX4_sent_12 : decode cX4_sent 12 = .ok (.aload_n 0, 1) := dk_42 (dk_at dksX4_sent_0 12 rfl rfl)
theorem dX4_sent_13 : decode cX4_sent 13 = .ok (.getfield 7, 3) := dk_180 0 7 (dk_at dksX4_sent_0 13 rfl rfl)
theorem dX4_sent_16 : decode cX4_sent 16 = .ok (.ishl, 1) := dk_120 (dk_at dksX4_sent_0 16 rfl rfl)
theorem dX4_sent_17 : decode cX4_sent 17 = .ok (.if_icmp .ge 16, 3) := dk_162 0 16 (dk_at dksX4_sent_0 17 rfl rfl)
theorem dX4_sent_20 : decode cX4_sent 20 = .ok (.iload_n 1, 1) := dk_27 (dk_at dksX4_sent_0 20 rfl rfl)
theorem dX4_sent_21 : decode cX4_sent 21 = .ok (.invokestatic 320, 3) := dk_184 1 64 (dk_at dksX4_sent_0 21 rfl rfl)
theorem dX4_sent_24 : decode cX4_sent 24 = .ok (.bipush 6, 2) := dk_16 6 (dk_at dksX4_sent_1 0 rfl rfl)
theorem dX4_sent_26 : decode cX4_sent 26 = .ok (.if_icmp .gt 7, 3) := dk_163 0 7 (dk_at dksX4_sent_1 2 rfl rfl)
theorem dX4_sent_29 : decode cX4_sent 29 = .ok (.iconst 1, 1) := dk_4 (dk_at dksX4_sent_1 5 rfl rfl)
theorem dX4_sent_30 : decode cX4_sent 30 = .ok (.goto 4, 3) := dk_167 0 4 (dk_at dksX4_sent_1 6 rfl rfl)
theorem dX4_sent_33 : decode cX4_sent 33 = .ok (.iconst 0, 1) := dk_3 (dk_at dksX4_sent_1 9 rfl rfl)
theorem dX4_sent_34 : decode cX4_sent 34 = .ok (.iconst 2, 1) := dk_5 (dk_at dksX4_sent_1 10 rfl rfl)
theorem dX4_sent_35 : decode cX4_sent 35 = .ok (.invokevirtual 277, 3) := dk_182 1 21 (dk_at dksX4_sent_1 11 rfl rfl)
theorem dX4_sent_38 : decode cX4_sent 38 = .ok (.ifCond .ne 5, 3) := dk_154 0 5 (dk_at dksX4_sent_1 14 rfl rfl)
theorem dX4_sent_41 : decode cX4_sent 41 = .ok (.iconst 0, 1) := dk_3 (dk_at dksX4_sent_1 17 rfl rfl)
theorem dX4_sent_42 : decode cX4_sent 42 = .ok (.ireturn, 1) := dk_172 (dk_at dksX4_sent_1 18 rfl rfl)
theorem dX4_sent_43 : decode cX4_sent 43 = .ok (.aload_n 0, 1) := dk_42 (dk_at dksX4_sent_1 19 rfl rfl)
theorem dX4_sent_44 : decode cX4_sent 44 = .ok (.iload_n 2, 1) := dk_28 (dk_at dksX4_sent_1 20 rfl rfl)
theorem dX4_sent_45 : decode cX4_sent 45 = .ok (.iconst (-1), 1) := dk_2 (dk_at dksX4_sent_1 21 rfl rfl)
theorem dX4_sent_46 : decode cX4_sent 46 = .ok (.if_icmp .eq 24, 3) := dk_159 0 24 (dk_at dksX4_sent_2 0 rfl rfl)
theorem dX4_sent_49 : decode cX4_sent 49 = .ok (.iload_n 2, 1) := dk_28 (dk_at dksX4_sent_2 3 rfl rfl)
theorem dX4_sent_50 : decode cX4_sent 50 = .ok (.ifCond .lt 24, 3) := dk_155 0 24 (dk_at dksX4_sent_2 4 rfl rfl)
theorem dX4_sent_53 : decode cX4_sent 53 = .ok (.iload_n 2, 1) := dk_28 (dk_at dksX4_sent_2 7 rfl rfl)
theorem dX4_sent_54 : decode cX4_sent 54 = .ok (.aload_n 0, 1) := dk_42 (dk_at dksX4_sent_2 8 rfl rfl)
theorem dX4_sent_55 : decode cX4_sent 55 = .ok (.getfield 7, 3) := dk_180 0 7 (dk_at dksX4_sent_2 9 rfl rfl)
theorem dX4_sent_58 : decode cX4_sent 58 = .ok (.if_icmp .ge 16, 3) := dk_162 0 16 (dk_at dksX4_sent_2 12 rfl rfl)
theorem dX4_sent_61 : decode cX4_sent 61 = .ok (.iload_n 1, 1) := dk_27 (dk_at dksX4_sent_2 15 rfl rfl)
theorem dX4_sent_62 : decode cX4_sent 62 = .ok (.iload_n 2, 1) := dk_28 (dk_at dksX4_sent_2 16 rfl rfl)
theorem dX4_sent_63 : decode cX4_sent 63 = .ok (.ishr, 1) := dk_122 (dk_at dksX4_sent_2 17 rfl rfl)
theorem dX4_sent_64 : decode cX4_sent 64 = .ok (.iconst 1, 1) := dk_4 (dk_at dksX4_sent_2 18 rfl rfl)
theorem dX4_sent_65 : decode cX4_sent 65 = .ok (.iand, 1) := dk_126 (dk_at dksX4_sent_2 19 rfl rfl)
theorem dX4_sent_66 : decode cX4_sent 66 = .ok (.iconst 1, 1) := dk_4 (dk_at dksX4_sent_2 20 rfl rfl)
theorem dX4_sent_67 : decode cX4_sent 67 = .ok (.if_icmp .ne 7, 3) := dk_160 0 7 (dk_at dksX4_sent_2 21 rfl rfl)
theorem dX4_sent_70 : decode cX4_sent 70 = .ok (.iconst 1, 1) := dk_4 (dk_at dksX4_sent_3 0 rfl rfl)
theorem dX4_sent_71 : decode cX4_sent 71 = .ok (.goto 4, 3) := dk_167 0 4 (dk_at dksX4_sent_3 1 rfl rfl)
theorem dX4_sent_74 : decode cX4_sent 74 = .ok (.iconst 0, 1) := dk_3 (dk_at dksX4_sent_3 4 rfl rfl)
theorem dX4_sent_75 : decode cX4_sent 75 = .ok (.iconst 1, 1) := dk_4 (dk_at dksX4_sent_3 5 rfl rfl)
theorem dX4_sent_76 : decode cX4_sent 76 = .ok (.invokevirtual 277, 3) := dk_182 1 21 (dk_at dksX4_sent_3 6 rfl rfl)
theorem dX4_sent_79 : decode cX4_sent 79 = .ok (.ifCond .ne 5, 3) := dk_154 0 5 (dk_at dksX4_sent_3 9 rfl rfl)
theorem dX4_sent_82 : decode cX4_sent 82 = .ok (.iconst 0, 1) := dk_3 (dk_at dksX4_sent_3 12 rfl rfl)
theorem dX4_sent_83 : decode cX4_sent 83 = .ok (.ireturn, 1) := dk_172 (dk_at dksX4_sent_3 13 rfl rfl)
theorem dX4_sent_84 : decode cX4_sent 84 = .ok (.iconst 0, 1) := dk_3 (dk_at dksX4_sent_3 14 rfl rfl)
theorem dX4_sent_85 : decode cX4_sent 85 = .ok (.istore_n 3, 1) := dk_62 (dk_at dksX4_sent_3 15 rfl rfl)
theorem dX4_sent_86 : decode cX4_sent 86 = .ok (.iconst 0, 1) := dk_3 (dk_at dksX4_sent_3 16 rfl rfl)
theorem dX4_sent_87 : decode cX4_sent 87 = .ok (.istore 4, 2) := dk_54 4 (dk_at dksX4_sent_3 17 rfl rfl)
theorem dX4_sent_89 : decode cX4_sent 89 = .ok (.iload 4, 2) := dk_21 4 (dk_at dksX4_sent_3 19 rfl rfl)
theorem dX4_sent_91 : decode cX4_sent 91 = .ok (.aload_n 0, 1) := dk_42 (dk_at dksX4_sent_3 21 rfl rfl)
theorem dX4_sent_92 : decode cX4_sent 92 = .ok (.getfield 7, 3) := dk_180 0 7 (dk_at dksX4_sent_4 0 rfl rfl)
theorem dX4_sent_95 : decode cX4_sent 95 = .ok (.if_icmp .ge 32, 3) := dk_162 0 32 (dk_at dksX4_sent_4 3 rfl rfl)
theorem dX4_sent_98 : decode cX4_sent 98 = .ok (.iload_n 1, 1) := dk_27 (dk_at dksX4_sent_4 6 rfl rfl)
theorem dX4_sent_99 : decode cX4_sent 99 = .ok (.iload 4, 2) := dk_21 4 (dk_at dksX4_sent_4 7 rfl rfl)
theorem dX4_sent_101 : decode cX4_sent 101 = .ok (.ishr, 1) := dk_122 (dk_at dksX4_sent_4 9 rfl rfl)
theorem dX4_sent_102 : decode cX4_sent 102 = .ok (.iconst 1, 1) := dk_4 (dk_at dksX4_sent_4 10 rfl rfl)
theorem dX4_sent_103 : decode cX4_sent 103 = .ok (.iand, 1) := dk_126 (dk_at dksX4_sent_4 11 rfl rfl)
theorem dX4_sent_104 : decode cX4_sent 104 = .ok (.ifCond .ne 6, 3) := dk_154 0 6 (dk_at dksX4_sent_4 12 rfl rfl)
theorem dX4_sent_107 : decode cX4_sent 107 = .ok (.goto 14, 3) := dk_167 0 14 (dk_at dksX4_sent_4 15 rfl rfl)
theorem dX4_sent_110 : decode cX4_sent 110 = .ok (.aload_n 0, 1) := dk_42 (dk_at dksX4_sent_4 18 rfl rfl)
theorem dX4_sent_111 : decode cX4_sent 111 = .ok (.getfield 84, 3) := dk_180 0 84 (dk_at dksX4_sent_4 19 rfl rfl)
theorem dX4_sent_114 : decode cX4_sent 114 = .ok (.iload_n 3, 1) := dk_29 (dk_at dksX4_sent_4 22 rfl rfl)
theorem dX4_sent_115 : decode cX4_sent 115 = .ok (.iload 4, 2) := dk_21 4 (dk_at dksX4_sent_5 0 rfl rfl)
theorem dX4_sent_117 : decode cX4_sent 117 = .ok (.iastore, 1) := dk_79 (dk_at dksX4_sent_5 2 rfl rfl)
theorem dX4_sent_118 : decode cX4_sent 118 = .ok (.iinc 3 1, 3) := dk_132 3 1 (dk_at dksX4_sent_5 3 rfl rfl)
theorem dX4_sent_121 : decode cX4_sent 121 = .ok (.iinc 4 1, 3) := dk_132 4 1 (dk_at dksX4_sent_5 6 rfl rfl)
theorem dX4_sent_124 : decode cX4_sent 124 = .ok (.goto (-35), 3) := dk_167 255 221 (dk_at dksX4_sent_5 9 rfl rfl)
theorem dX4_sent_127 : decode cX4_sent 127 = .ok (.iload_n 3, 1) := dk_29 (dk_at dksX4_sent_5 12 rfl rfl)
theorem dX4_sent_128 : decode cX4_sent 128 = .ok (.aload_n 0, 1) := dk_42 (dk_at dksX4_sent_5 13 rfl rfl)
theorem dX4_sent_129 : decode cX4_sent 129 = .ok (.getfield 284, 3) := dk_180 1 28 (dk_at dksX4_sent_5 14 rfl rfl)
theorem dX4_sent_132 : decode cX4_sent 132 = .ok (.if_icmp .le 6, 3) := dk_164 0 6 (dk_at dksX4_sent_5 17 rfl rfl)
theorem dX4_sent_135 : decode cX4_sent 135 = .ok (.bipush (-2), 2) := dk_16 254 (dk_at dksX4_sent_5 20 rfl rfl)
theorem dX4_sent_137 : decode cX4_sent 137 = .ok (.ireturn, 1) := dk_172 (dk_at dksX4_sent_5 22 rfl rfl)
theorem dX4_sent_138 : decode cX4_sent 138 = .ok (.iconst 0, 1) := dk_3 (dk_at dksX4_sent_5 23 rfl rfl)
theorem dX4_sent_139 : decode cX4_sent 139 = .ok (.istore 4, 2) := dk_54 4 (dk_at dksX4_sent_6 0 rfl rfl)
theorem dX4_sent_141 : decode cX4_sent 141 = .ok (.iload 4, 2) := dk_21 4 (dk_at dksX4_sent_6 2 rfl rfl)
theorem dX4_sent_143 : decode cX4_sent 143 = .ok (.bipush 64, 2) := dk_16 64 (dk_at dksX4_sent_6 4 rfl rfl)
theorem dX4_sent_145 : decode cX4_sent 145 = .ok (.if_icmp .ge 22, 3) := dk_162 0 22 (dk_at dksX4_sent_6 6 rfl rfl)
theorem dX4_sent_148 : decode cX4_sent 148 = .ok (.aload_n 0, 1) := dk_42 (dk_at dksX4_sent_6 9 rfl rfl)
theorem dX4_sent_149 : decode cX4_sent 149 = .ok (.getfield 81, 3) := dk_180 0 81 (dk_at dksX4_sent_6 10 rfl rfl)
theorem dX4_sent_152 : decode cX4_sent 152 = .ok (.bipush 64, 2) := dk_16 64 (dk_at dksX4_sent_6 13 rfl rfl)
theorem dX4_sent_154 : decode cX4_sent 154 = .ok (.iload_n 3, 1) := dk_29 (dk_at dksX4_sent_6 15 rfl rfl)
theorem dX4_sent_155 : decode cX4_sent 155 = .ok (.imul, 1) := dk_104 (dk_at dksX4_sent_6 16 rfl rfl)
theorem dX4_sent_156 : decode cX4_sent 156 = .ok (.iload 4, 2) := dk_21 4 (dk_at dksX4_sent_6 17 rfl rfl)
theorem dX4_sent_158 : decode cX4_sent 158 = .ok (.iadd, 1) := dk_96 (dk_at dksX4_sent_6 19 rfl rfl)
theorem dX4_sent_159 : decode cX4_sent 159 = .ok (.iconst 0, 1) := dk_3 (dk_at dksX4_sent_6 20 rfl rfl)
theorem dX4_sent_160 : decode cX4_sent 160 = .ok (.iastore, 1) := dk_79 (dk_at dksX4_sent_6 21 rfl rfl)
theorem dX4_sent_161 : decode cX4_sent 161 = .ok (.iinc 4 1, 3) := dk_132 4 1 (dk_at dksX4_sent_7 0 rfl rfl)
theorem dX4_sent_164 : decode cX4_sent 164 = .ok (.goto (-23), 3) := dk_167 255 233 (dk_at dksX4_sent_7 3 rfl rfl)
theorem dX4_sent_167 : decode cX4_sent 167 = .ok (.iload_n 3, 1) := dk_29 (dk_at dksX4_sent_7 6 rfl rfl)
theorem dX4_sent_168 : decode cX4_sent 168 = .ok (.iconst 1, 1) := dk_4 (dk_at dksX4_sent_7 7 rfl rfl)
theorem dX4_sent_169 : decode cX4_sent 169 = .ok (.isub, 1) := dk_100 (dk_at dksX4_sent_7 8 rfl rfl)
theorem dX4_sent_170 : decode cX4_sent 170 = .ok (.istore 4, 2) := dk_54 4 (dk_at dksX4_sent_7 9 rfl rfl)
theorem dX4_sent_172 : decode cX4_sent 172 = .ok (.iload 4, 2) := dk_21 4 (dk_at dksX4_sent_7 11 rfl rfl)
theorem dX4_sent_174 : decode cX4_sent 174 = .ok (.ifCond .lt 94, 3) := dk_155 0 94 (dk_at dksX4_sent_7 13 rfl rfl)
theorem dX4_sent_177 : decode cX4_sent 177 = .ok (.iconst 0, 1) := dk_3 (dk_at dksX4_sent_7 16 rfl rfl)
theorem dX4_sent_178 : decode cX4_sent 178 = .ok (.istore 5, 2) := dk_54 5 (dk_at dksX4_sent_7 17 rfl rfl)
theorem dX4_sent_180 : decode cX4_sent 180 = .ok (.iload 5, 2) := dk_21 5 (dk_at dksX4_sent_7 19 rfl rfl)
theorem dX4_sent_182 : decode cX4_sent 182 = .ok (.iconst 1, 1) := dk_4 (dk_at dksX4_sent_7 21 rfl rfl)
theorem dX4_sent_183 : decode cX4_sent 183 = .ok (.aload_n 0, 1) := dk_42 (dk_at dksX4_sent_7 22 rfl rfl)
theorem dX4_sent_184 : decode cX4_sent 184 = .ok (.getfield 284, 3) := dk_180 1 28 (dk_at dksX4_sent_8 0 rfl rfl)
theorem dX4_sent_187 : decode cX4_sent 187 = .ok (.ishl, 1) := dk_120 (dk_at dksX4_sent_8 3 rfl rfl)
theorem dX4_sent_188 : decode cX4_sent 188 = .ok (.if_icmp .ge 74, 3) := dk_162 0 74 (dk_at dksX4_sent_8 4 rfl rfl)
theorem dX4_sent_191 : decode cX4_sent 191 = .ok (.ldc_w 406, 3) := dk_19 1 150 (dk_at dksX4_sent_8 7 rfl rfl)
theorem dX4_sent_194 : decode cX4_sent 194 = .ok (.istore 6, 2) := dk_54 6 (dk_at dksX4_sent_8 10 rfl rfl)
theorem dX4_sent_196 : decode cX4_sent 196 = .ok (.iconst 0, 1) := dk_3 (dk_at dksX4_sent_8 12 rfl rfl)
theorem dX4_sent_197 : decode cX4_sent 197 = .ok (.istore 7, 2) := dk_54 7 (dk_at dksX4_sent_8 13 rfl rfl)
theorem dX4_sent_199 : decode cX4_sent 199 = .ok (.iload 7, 2) := dk_21 7 (dk_at dksX4_sent_8 15 rfl rfl)
theorem dX4_sent_201 : decode cX4_sent 201 = .ok (.aload_n 0, 1) := dk_42 (dk_at dksX4_sent_8 17 rfl rfl)
theorem dX4_sent_202 : decode cX4_sent 202 = .ok (.getfield 284, 3) := dk_180 1 28 (dk_at dksX4_sent_8 18 rfl rfl)
theorem dX4_sent_205 : decode cX4_sent 205 = .ok (.if_icmp .ge 36, 3) := dk_162 0 36 (dk_at dksX4_sent_8 21 rfl rfl)
theorem dX4_sent_208 : decode cX4_sent 208 = .ok (.iload 5, 2) := dk_21 5 (dk_at dksX4_sent_9 0 rfl rfl)
theorem dX4_sent_210 : decode cX4_sent 210 = .ok (.iload 7, 2) := dk_21 7 (dk_at dksX4_sent_9 2 rfl rfl)
theorem dX4_sent_212 : decode cX4_sent 212 = .ok (.ishr, 1) := dk_122 (dk_at dksX4_sent_9 4 rfl rfl)
theorem dX4_sent_213 : decode cX4_sent 213 = .ok (.iconst 1, 1) := dk_4 (dk_at dksX4_sent_9 5 rfl rfl)
theorem dX4_sent_214 : decode cX4_sent 214 = .ok (.iand, 1) := dk_126 (dk_at dksX4_sent_9 6 rfl rfl)
theorem dX4_sent_215 : decode cX4_sent 215 = .ok (.ifCond .ne 20, 3) := dk_154 0 20 (dk_at dksX4_sent_9 7 rfl rfl)
theorem dX4_sent_218 : decode cX4_sent 218 = .ok (.iload 6, 2) := dk_21 6 (dk_at dksX4_sent_9 10 rfl rfl)
theorem dX4_sent_220 : decode cX4_sent 220 = .ok (.aload_n 0, 1) := dk_42 (dk_at dksX4_sent_9 12 rfl rfl)
theorem dX4_sent_221 : decode cX4_sent 221 = .ok (.iload 4, 2) := dk_21 4 (dk_at dksX4_sent_9 13 rfl rfl)
theorem dX4_sent_223 : decode cX4_sent 223 = .ok (.iload 7, 2) := dk_21 7 (dk_at dksX4_sent_9 15 rfl rfl)
theorem dX4_sent_225 : decode cX4_sent 225 = .ok (.iload 5, 2) := dk_21 5 (dk_at dksX4_sent_9 17 rfl rfl)
theorem dX4_sent_227 : decode cX4_sent 227 = .ok (.invokevirtual 413, 3) := dk_182 1 157 (dk_at dksX4_sent_9 19 rfl rfl)
theorem dX4_sent_230 : decode cX4_sent 230 = .ok (.invokestatic 336, 3) := dk_184 1 80 (dk_at dksX4_sent_10 0 rfl rfl)
theorem dX4_sent_233 : decode cX4_sent 233 = .ok (.istore 6, 2) := dk_54 6 (dk_at dksX4_sent_10 3 rfl rfl)
theorem dX4_sent_235 : decode cX4_sent 235 = .ok (.iinc 7 1, 3) := dk_132 7 1 (dk_at dksX4_sent_10 5 rfl rfl)
theorem dX4_sent_238 : decode cX4_sent 238 = .ok (.goto (-39), 3) := dk_167 255 217 (dk_at dksX4_sent_10 8 rfl rfl)
theorem dX4_sent_241 : decode cX4_sent 241 = .ok (.aload_n 0, 1) := dk_42 (dk_at dksX4_sent_10 11 rfl rfl)
theorem dX4_sent_242 : decode cX4_sent 242 = .ok (.getfield 81, 3) := dk_180 0 81 (dk_at dksX4_sent_10 12 rfl rfl)
theorem dX4_sent_245 : decode cX4_sent 245 = .ok (.bipush 64, 2) := dk_16 64 (dk_at dksX4_sent_10 15 rfl rfl)
theorem dX4_sent_247 : decode cX4_sent 247 = .ok (.iload 4, 2) := dk_21 4 (dk_at dksX4_sent_10 17 rfl rfl)
theorem dX4_sent_249 : decode cX4_sent 249 = .ok (.imul, 1) := dk_104 (dk_at dksX4_sent_10 19 rfl rfl)
theorem dX4_sent_250 : decode cX4_sent 250 = .ok (.iload 5, 2) := dk_21 5 (dk_at dksX4_sent_10 20 rfl rfl)
theorem dX4_sent_252 : decode cX4_sent 252 = .ok (.iadd, 1) := dk_96 (dk_at dksX4_sent_10 22 rfl rfl)
theorem dX4_sent_253 : decode cX4_sent 253 = .ok (.iload 6, 2) := dk_21 6 (dk_at dksX4_sent_11 0 rfl rfl)
theorem dX4_sent_255 : decode cX4_sent 255 = .ok (.iastore, 1) := dk_79 (dk_at dksX4_sent_11 2 rfl rfl)
theorem dX4_sent_256 : decode cX4_sent 256 = .ok (.iinc 5 1, 3) := dk_132 5 1 (dk_at dksX4_sent_11 3 rfl rfl)
theorem dX4_sent_259 : decode cX4_sent 259 = .ok (.goto (-79), 3) := dk_167 255 177 (dk_at dksX4_sent_11 6 rfl rfl)
theorem dX4_sent_262 : decode cX4_sent 262 = .ok (.iinc 4 (-1), 3) := dk_132 4 255 (dk_at dksX4_sent_11 9 rfl rfl)
theorem dX4_sent_265 : decode cX4_sent 265 = .ok (.goto (-93), 3) := dk_167 255 163 (dk_at dksX4_sent_11 12 rfl rfl)
theorem dX4_sent_268 : decode cX4_sent 268 = .ok (.iload_n 2, 1) := dk_28 (dk_at dksX4_sent_11 15 rfl rfl)
theorem dX4_sent_269 : decode cX4_sent 269 = .ok (.iconst (-1), 1) := dk_2 (dk_at dksX4_sent_11 16 rfl rfl)
theorem dX4_sent_270 : decode cX4_sent 270 = .ok (.if_icmp .ne 10, 3) := dk_160 0 10 (dk_at dksX4_sent_11 17 rfl rfl)
theorem dX4_sent_273 : decode cX4_sent 273 = .ok (.aload_n 0, 1) := dk_42 (dk_at dksX4_sent_11 20 rfl rfl)
theorem dX4_sent_274 : decode cX4_sent 274 = .ok (.getfield 81, 3) := dk_180 0 81 (dk_at dksX4_sent_11 21 rfl rfl)
theorem dX4_sent_277 : decode cX4_sent 277 = .ok (.iconst 0, 1) := dk_3 (dk_at dksX4_sent_12 0 rfl rfl)
theorem dX4_sent_278 : decode cX4_sent 278 = .ok (.iaload, 1) := dk_46 (dk_at dksX4_sent_12 1 rfl rfl)
theorem dX4_sent_279 : decode cX4_sent 279 = .ok (.ireturn, 1) := dk_172 (dk_at dksX4_sent_12 2 rfl rfl)
theorem dX4_sent_280 : decode cX4_sent 280 = .ok (.iconst 0, 1) := dk_3 (dk_at dksX4_sent_12 3 rfl rfl)
theorem dX4_sent_281 : decode cX4_sent 281 = .ok (.istore 4, 2) := dk_54 4 (dk_at dksX4_sent_12 4 rfl rfl)
theorem dX4_sent_283 : decode cX4_sent 283 = .ok (.iconst (-1), 1) := dk_2 (dk_at dksX4_sent_12 6 rfl rfl)
theorem dX4_sent_284 : decode cX4_sent 284 = .ok (.istore 5, 2) := dk_54 5 (dk_at dksX4_sent_12 7 rfl rfl)
theorem dX4_sent_286 : decode cX4_sent 286 = .ok (.iconst 0, 1) := dk_3 (dk_at dksX4_sent_12 9 rfl rfl)
theorem dX4_sent_287 : decode cX4_sent 287 = .ok (.istore 6, 2) := dk_54 6 (dk_at dksX4_sent_12 10 rfl rfl)
theorem dX4_sent_289 : decode cX4_sent 289 = .ok (.iload 6, 2) := dk_21 6 (dk_at dksX4_sent_12 12 rfl rfl)
theorem dX4_sent_291 : decode cX4_sent 291 = .ok (.iload_n 3, 1) := dk_29 (dk_at dksX4_sent_12 14 rfl rfl)
theorem dX4_sent_292 : decode cX4_sent 292 = .ok (.if_icmp .ge 91, 3) := dk_162 0 91 (dk_at dksX4_sent_12 15 rfl rfl)
theorem dX4_sent_295 : decode cX4_sent 295 = .ok (.aload_n 0, 1) := dk_42 (dk_at dksX4_sent_12 18 rfl rfl)
theorem dX4_sent_296 : decode cX4_sent 296 = .ok (.getfield 284, 3) := dk_180 1 28 (dk_at dksX4_sent_12 19 rfl rfl)
theorem dX4_sent_299 : decode cX4_sent 299 = .ok (.iconst 1, 1) := dk_4 (dk_at dksX4_sent_12 22 rfl rfl)
theorem dX4_sent_300 : decode cX4_sent 300 = .ok (.isub, 1) := dk_100 (dk_at dksX4_sent_12 23 rfl rfl)
theorem dX4_sent_301 : decode cX4_sent 301 = .ok (.istore 7, 2) := dk_54 7 (dk_at dksX4_sent_13 0 rfl rfl)
theorem dX4_sent_303 : decode cX4_sent 303 = .ok (.iload 7, 2) := dk_21 7 (dk_at dksX4_sent_13 2 rfl rfl)
theorem dX4_sent_305 : decode cX4_sent 305 = .ok (.ifCond .lt 49, 3) := dk_155 0 49 (dk_at dksX4_sent_13 4 rfl rfl)
theorem dX4_sent_308 : decode cX4_sent 308 = .ok (.iload 4, 2) := dk_21 4 (dk_at dksX4_sent_13 7 rfl rfl)
theorem dX4_sent_310 : decode cX4_sent 310 = .ok (.iload 7, 2) := dk_21 7 (dk_at dksX4_sent_13 9 rfl rfl)
theorem dX4_sent_312 : decode cX4_sent 312 = .ok (.ishr, 1) := dk_122 (dk_at dksX4_sent_13 11 rfl rfl)
theorem dX4_sent_313 : decode cX4_sent 313 = .ok (.iconst 1, 1) := dk_4 (dk_at dksX4_sent_13 12 rfl rfl)
theorem dX4_sent_314 : decode cX4_sent 314 = .ok (.iand, 1) := dk_126 (dk_at dksX4_sent_13 13 rfl rfl)
theorem dX4_sent_315 : decode cX4_sent 315 = .ok (.ifCond .ne 33, 3) := dk_154 0 33 (dk_at dksX4_sent_13 14 rfl rfl)
theorem dX4_sent_318 : decode cX4_sent 318 = .ok (.aload_n 0, 1) := dk_42 (dk_at dksX4_sent_13 17 rfl rfl)
theorem dX4_sent_319 : decode cX4_sent 319 = .ok (.iload 6, 2) := dk_21 6 (dk_at dksX4_sent_13 18 rfl rfl)
theorem dX4_sent_321 : decode cX4_sent 321 = .ok (.iload 7, 2) := dk_21 7 (dk_at dksX4_sent_13 20 rfl rfl)
theorem dX4_sent_323 : decode cX4_sent 323 = .ok (.iload 4, 2) := dk_21 4 (dk_at dksX4_sent_13 22 rfl rfl)
theorem dX4_sent_325 : decode cX4_sent 325 = .ok (.invokevirtual 413, 3) := dk_182 1 157 (dk_at dksX4_sent_14 0 rfl rfl)
theorem dX4_sent_328 : decode cX4_sent 328 = .ok (.aload_n 0, 1) := dk_42 (dk_at dksX4_sent_14 3 rfl rfl)
theorem dX4_sent_329 : decode cX4_sent 329 = .ok (.getfield 81, 3) := dk_180 0 81 (dk_at dksX4_sent_14 4 rfl rfl)
theorem dX4_sent_332 : decode cX4_sent 332 = .ok (.bipush 64, 2) := dk_16 64 (dk_at dksX4_sent_14 7 rfl rfl)
theorem dX4_sent_334 : decode cX4_sent 334 = .ok (.iload 6, 2) := dk_21 6 (dk_at dksX4_sent_14 9 rfl rfl)
theorem dX4_sent_336 : decode cX4_sent 336 = .ok (.imul, 1) := dk_104 (dk_at dksX4_sent_14 11 rfl rfl)
theorem dX4_sent_337 : decode cX4_sent 337 = .ok (.iload 4, 2) := dk_21 4 (dk_at dksX4_sent_14 12 rfl rfl)
theorem dX4_sent_339 : decode cX4_sent 339 = .ok (.iadd, 1) := dk_96 (dk_at dksX4_sent_14 14 rfl rfl)
theorem dX4_sent_340 : decode cX4_sent 340 = .ok (.iaload, 1) := dk_46 (dk_at dksX4_sent_14 15 rfl rfl)
theorem dX4_sent_341 : decode cX4_sent 341 = .ok (.if_icmp .ne 7, 3) := dk_160 0 7 (dk_at dksX4_sent_14 16 rfl rfl)
theorem dX4_sent_344 : decode cX4_sent 344 = .ok (.iload 7, 2) := dk_21 7 (dk_at dksX4_sent_14 19 rfl rfl)
theorem dX4_sent_346 : decode cX4_sent 346 = .ok (.istore 5, 2) := dk_54 5 (dk_at dksX4_sent_14 21 rfl rfl)
theorem dX4_sent_348 : decode cX4_sent 348 = .ok (.iinc 7 (-1), 3) := dk_132 7 255 (dk_at dksX4_sent_15 0 rfl rfl)
theorem dX4_sent_351 : decode cX4_sent 351 = .ok (.goto (-48), 3) := dk_167 255 208 (dk_at dksX4_sent_15 3 rfl rfl)
theorem dX4_sent_354 : decode cX4_sent 354 = .ok (.aload_n 0, 1) := dk_42 (dk_at dksX4_sent_15 6 rfl rfl)
theorem dX4_sent_355 : decode cX4_sent 355 = .ok (.getfield 84, 3) := dk_180 0 84 (dk_at dksX4_sent_15 7 rfl rfl)
theorem dX4_sent_358 : decode cX4_sent 358 = .ok (.iload 6, 2) := dk_21 6 (dk_at dksX4_sent_15 10 rfl rfl)
theorem dX4_sent_360 : decode cX4_sent 360 = .ok (.iaload, 1) := dk_46 (dk_at dksX4_sent_15 12 rfl rfl)
theorem dX4_sent_361 : decode cX4_sent 361 = .ok (.iload_n 2, 1) := dk_28 (dk_at dksX4_sent_15 13 rfl rfl)
theorem dX4_sent_362 : decode cX4_sent 362 = .ok (.if_icmp .ne 6, 3) := dk_160 0 6 (dk_at dksX4_sent_15 14 rfl rfl)
theorem dX4_sent_365 : decode cX4_sent 365 = .ok (.iload 5, 2) := dk_21 5 (dk_at dksX4_sent_15 17 rfl rfl)
theorem dX4_sent_367 : decode cX4_sent 367 = .ok (.ireturn, 1) := dk_172 (dk_at dksX4_sent_15 19 rfl rfl)
theorem dX4_sent_368 : decode cX4_sent 368 = .ok (.iload 4, 2) := dk_21 4 (dk_at dksX4_sent_15 20 rfl rfl)
theorem dX4_sent_370 : decode cX4_sent 370 = .ok (.iconst 1, 1) := dk_4 (dk_at dksX4_sent_15 22 rfl rfl)
theorem dX4_sent_371 : decode cX4_sent 371 = .ok (.iload 5, 2) := dk_21 5 (dk_at dksX4_sent_16 0 rfl rfl)
theorem dX4_sent_373 : decode cX4_sent 373 = .ok (.ishl, 1) := dk_120 (dk_at dksX4_sent_16 2 rfl rfl)
theorem dX4_sent_374 : decode cX4_sent 374 = .ok (.ior, 1) := dk_128 (dk_at dksX4_sent_16 3 rfl rfl)
theorem dX4_sent_375 : decode cX4_sent 375 = .ok (.istore 4, 2) := dk_54 4 (dk_at dksX4_sent_16 4 rfl rfl)
theorem dX4_sent_377 : decode cX4_sent 377 = .ok (.iinc 6 1, 3) := dk_132 6 1 (dk_at dksX4_sent_16 6 rfl rfl)
theorem dX4_sent_380 : decode cX4_sent 380 = .ok (.goto (-91), 3) := dk_167 255 165 (dk_at dksX4_sent_16 9 rfl rfl)
theorem dX4_sent_383 : decode cX4_sent 383 = .ok (.iload 5, 2) := dk_21 5 (dk_at dksX4_sent_16 12 rfl rfl)
theorem dX4_sent_385 : decode cX4_sent 385 = .ok (.ireturn, 1) := dk_172 (dk_at dksX4_sent_16 14 rfl rfl)
abbrev cX4_closed : ByteArray := prog_12_method_93_code
def yX4_closed : MethodName := ⟨RX4, "closed", "(I)I"⟩
def dkwX4_closed_4 : List UInt8 := [167, 0, 4, 29, 172]
abbrev dktX4_closed_4 : List UInt8 := dkwX4_closed_4 ++ []
def dkwX4_closed_3 : List UInt8 := [28, 163, 0, 6, 167, 0, 9, 21, 5, 61, 21, 4, 62, 132, 4, 1, 167, 255, 193, 27, 154, 0, 7, 28]
abbrev dktX4_closed_3 : List UInt8 := dkwX4_closed_3 ++ dktX4_closed_4
def dkwX4_closed_2 : List UInt8 := [21, 4, 21, 5, 96, 42, 180, 0, 7, 112, 182, 1, 70, 154, 0, 9, 132, 5, 1, 167, 255, 226, 21, 5]
abbrev dktX4_closed_2 : List UInt8 := dkwX4_closed_2 ++ dktX4_closed_3
def dkwX4_closed_1 : List UInt8 := [21, 4, 42, 180, 0, 7, 162, 0, 60, 3, 54, 5, 21, 5, 42, 180, 0, 7, 162, 0, 27, 42, 3]
abbrev dktX4_closed_1 : List UInt8 := dkwX4_closed_1 ++ dktX4_closed_2
def dkwX4_closed_0 : List UInt8 := [42, 3, 181, 0, 117, 42, 27, 4, 182, 1, 122, 154, 0, 5, 3, 172, 3, 61, 2, 62, 3, 54, 4]
abbrev dktX4_closed_0 : List UInt8 := dkwX4_closed_0 ++ dktX4_closed_1
theorem dksX4_closed_0 : cX4_closed.data.toList.drop 0 = dktX4_closed_0 := by decide +kernel
theorem dksX4_closed_1 : cX4_closed.data.toList.drop 23 = dktX4_closed_1 := dk_seg dksX4_closed_0 23 rfl rfl
theorem dksX4_closed_2 : cX4_closed.data.toList.drop 46 = dktX4_closed_2 := dk_seg dksX4_closed_1 23 rfl rfl
theorem dksX4_closed_3 : cX4_closed.data.toList.drop 70 = dktX4_closed_3 := dk_seg dksX4_closed_2 24 rfl rfl
theorem dksX4_closed_4 : cX4_closed.data.toList.drop 94 = dktX4_closed_4 := dk_seg dksX4_closed_3 24 rfl rfl
theorem dX4_closed_0 : decode cX4_closed 0 = .ok (.aload_n 0, 1) := dk_42 (dk_at dksX4_closed_0 0 rfl rfl)
theorem dX4_closed_1 : decode cX4_closed 1 = .ok (.iconst 0, 1) := dk_3 (dk_at dksX4_closed_0 1 rfl rfl)
theorem dX4_closed_2 : decode cX4_closed 2 = .ok (.putfield 117, 3) := dk_181 0 117 (dk_at dksX4_closed_0 2 rfl rfl)
theorem dX4_closed_5 : decode cX4_closed 5 = .ok (.aload_n 0, 1) := dk_42 (dk_at dksX4_closed_0 5 rfl rfl)
theorem dX4_closed_6 : decode cX4_closed 6 = .ok (.iload_n 1, 1) := dk_27 (dk_at dksX4_closed_0 6 rfl rfl)
theorem dX4_closed_7 : decode cX4_closed 7 = .ok (.iconst 1, 1) := dk_4 (dk_at dksX4_closed_0 7 rfl rfl)
theorem dX4_closed_8 : decode cX4_closed 8 = .ok (.invokevirtual 378, 3) := dk_182 1 122 (dk_at dksX4_closed_0 8 rfl rfl)
theorem dX4_closed_11 : decode cX4_closed 11 = .ok (.ifCond .ne 5, 3) := dk_154 0 5 (dk_at dksX4_closed_0 11 rfl rfl)
theorem dX4_closed_14 : decode cX4_closed 14 = .ok (.iconst 0, 1) := dk_3 (dk_at dksX4_closed_0 14 rfl rfl)
theorem dX4_closed_15 : decode cX4_closed 15 = .ok (.ireturn, 1) := dk_172 (dk_at dksX4_closed_0 15 rfl rfl)
theorem dX4_closed_16 : decode cX4_closed 16 = .ok (.iconst 0, 1) := dk_3 (dk_at dksX4_closed_0 16 rfl rfl)
theorem dX4_closed_17 : decode cX4_closed 17 = .ok (.istore_n 2, 1) := dk_61 (dk_at dksX4_closed_0 17 rfl rfl)
theorem dX4_closed_18 : decode cX4_closed 18 = .ok (.iconst (-1), 1) := dk_2 (dk_at dksX4_closed_0 18 rfl rfl)
theorem dX4_closed_19 : decode cX4_closed 19 = .ok (.istore_n 3, 1) := dk_62 (dk_at dksX4_closed_0 19 rfl rfl)
theorem dX4_closed_20 : decode cX4_closed 20 = .ok (.iconst 0, 1) := dk_3 (dk_at dksX4_closed_0 20 rfl rfl)
theorem dX4_closed_21 : decode cX4_closed 21 = .ok (.istore 4, 2) := dk_54 4 (dk_at dksX4_closed_0 21 rfl rfl)
theorem dX4_closed_23 : decode cX4_closed 23 = .ok (.iload 4, 2) := dk_21 4 (dk_at dksX4_closed_1 0 rfl rfl)
theorem dX4_closed_25 : decode cX4_closed 25 = .ok (.aload_n 0, 1) := dk_42 (dk_at dksX4_closed_1 2 rfl rfl)
theorem dX4_closed_26 : decode cX4_closed 26 = .ok (.getfield 7, 3) := dk_180 0 7 (dk_at dksX4_closed_1 3 rfl rfl)
theorem dX4_closed_29 : decode cX4_closed 29 = .ok (.if_icmp .ge 60, 3) := dk_162 0 60 (dk_at dksX4_closed_1 6 rfl rfl)
theorem dX4_closed_32 : decode cX4_closed 32 = .ok (.iconst 0, 1) := dk_3 (dk_at dksX4_closed_1 9 rfl rfl)
theorem dX4_closed_33 : decode cX4_closed 33 = .ok (.istore 5, 2) := dk_54 5 (dk_at dksX4_closed_1 10 rfl rfl)
theorem dX4_closed_35 : decode cX4_closed 35 = .ok (.iload 5, 2) := dk_21 5 (dk_at dksX4_closed_1 12 rfl rfl)
theorem dX4_closed_37 : decode cX4_closed 37 = .ok (.aload_n 0, 1) := dk_42 (dk_at dksX4_closed_1 14 rfl rfl)
theorem dX4_closed_38 : decode cX4_closed 38 = .ok (.getfield 7, 3) := dk_180 0 7 (dk_at dksX4_closed_1 15 rfl rfl)
theorem dX4_closed_41 : decode cX4_closed 41 = .ok (.if_icmp .ge 27, 3) := dk_162 0 27 (dk_at dksX4_closed_1 18 rfl rfl)
theorem dX4_closed_44 : decode cX4_closed 44 = .ok (.aload_n 0, 1) := dk_42 (dk_at dksX4_closed_1 21 rfl rfl)
theorem dX4_closed_45 : decode cX4_closed 45 = .ok (.iconst 0, 1) := dk_3 (dk_at dksX4_closed_1 22 rfl rfl)
theorem dX4_closed_46 : decode cX4_closed 46 = .ok (.iload 4, 2) := dk_21 4 (dk_at dksX4_closed_2 0 rfl rfl)
theorem dX4_closed_48 : decode cX4_closed 48 = .ok (.iload 5, 2) := dk_21 5 (dk_at dksX4_closed_2 2 rfl rfl)
theorem dX4_closed_50 : decode cX4_closed 50 = .ok (.iadd, 1) := dk_96 (dk_at dksX4_closed_2 4 rfl rfl)
theorem dX4_closed_51 : decode cX4_closed 51 = .ok (.aload_n 0, 1) := dk_42 (dk_at dksX4_closed_2 5 rfl rfl)
theorem dX4_closed_52 : decode cX4_closed 52 = .ok (.getfield 7, 3) := dk_180 0 7 (dk_at dksX4_closed_2 6 rfl rfl)
theorem dX4_closed_55 : decode cX4_closed 55 = .ok (.irem, 1) := dk_112 (dk_at dksX4_closed_2 9 rfl rfl)
theorem dX4_closed_56 : decode cX4_closed 56 = .ok (.invokevirtual 326, 3) := dk_182 1 70 (dk_at dksX4_closed_2 10 rfl rfl)
theorem dX4_closed_59 : decode cX4_closed 59 = .ok (.ifCond .ne 9, 3) := dk_154 0 9 (dk_at dksX4_closed_2 13 rfl rfl)
theorem dX4_closed_62 : decode cX4_closed 62 = .ok (.iinc 5 1, 3) := dk_132 5 1 (dk_at dksX4_closed_2 16 rfl rfl)
theorem dX4_closed_65 : decode cX4_closed 65 = .ok (.goto (-30), 3) := dk_167 255 226 (dk_at dksX4_closed_2 19 rfl rfl)
theorem dX4_closed_68 : decode cX4_closed 68 = .ok (.iload 5, 2) := dk_21 5 (dk_at dksX4_closed_2 22 rfl rfl)
theorem dX4_closed_70 : decode cX4_closed 70 = .ok (.iload_n 2, 1) := dk_28 (dk_at dksX4_closed_3 0 rfl rfl)
theorem dX4_closed_71 : decode cX4_closed 71 = .ok (.if_icmp .gt 6, 3) := dk_163 0 6 (dk_at dksX4_closed_3 1 rfl rfl)
theorem dX4_closed_74 : decode cX4_closed 74 = .ok (.goto 9, 3) := dk_167 0 9 (dk_at dksX4_closed_3 4 rfl rfl)
theorem dX4_closed_77 : decode cX4_closed 77 = .ok (.iload 5, 2) := dk_21 5 (dk_at dksX4_closed_3 7 rfl rfl)
theorem dX4_closed_79 : decode cX4_closed 79 = .ok (.istore_n 2, 1) := dk_61 (dk_at dksX4_closed_3 9 rfl rfl)
theorem dX4_closed_80 : decode cX4_closed 80 = .ok (.iload 4, 2) := dk_21 4 (dk_at dksX4_closed_3 10 rfl rfl)
theorem dX4_closed_82 : decode cX4_closed 82 = .ok (.istore_n 3, 1) := dk_62 (dk_at dksX4_closed_3 12 rfl rfl)
theorem dX4_closed_83 : decode cX4_closed 83 = .ok (.iinc 4 1, 3) := dk_132 4 1 (dk_at dksX4_closed_3 13 rfl rfl)
theorem dX4_closed_86 : decode cX4_closed 86 = .ok (.goto (-63), 3) := dk_167 255 193 (dk_at dksX4_closed_3 16 rfl rfl)
theorem dX4_closed_89 : decode cX4_closed 89 = .ok (.iload_n 1, 1) := dk_27 (dk_at dksX4_closed_3 19 rfl rfl)
theorem dX4_closed_90 : decode cX4_closed 90 = .ok (.ifCond .ne 7, 3) := dk_154 0 7 (dk_at dksX4_closed_3 20 rfl rfl)
theorem dX4_closed_93 : decode cX4_closed 93 = .ok (.iload_n 2, 1) := dk_28 (dk_at dksX4_closed_3 23 rfl rfl)
theorem dX4_closed_94 : decode cX4_closed 94 = .ok (.goto 4, 3) := dk_167 0 4 (dk_at dksX4_closed_4 0 rfl rfl)
theorem dX4_closed_97 : decode cX4_closed 97 = .ok (.iload_n 3, 1) := dk_29 (dk_at dksX4_closed_4 3 rfl rfl)
theorem dX4_closed_98 : decode cX4_closed 98 = .ok (.ireturn, 1) := dk_172 (dk_at dksX4_closed_4 4 rfl rfl)
abbrev cX4_tight : ByteArray := prog_12_method_94_code
def yX4_tight : MethodName := ⟨RX4, "tight", "(II)I"⟩
def dkwX4_tight_5 : List UInt8 := [132, 5, 1, 167, 255, 179, 28, 154, 0, 8, 21, 4, 167, 0, 4, 29, 172]
abbrev dktX4_tight_5 : List UInt8 := dkwX4_tight_5 ++ []
def dkwX4_tight_4 : List UInt8 := [132, 7, 1, 167, 255, 225, 21, 6, 21, 4, 163, 0, 6, 167, 0, 10, 21, 5, 62, 21, 6, 54, 4]
abbrev dktX4_tight_4 : List UInt8 := dkwX4_tight_4 ++ dktX4_tight_5
def dkwX4_tight_3 : List UInt8 := [21, 6, 42, 180, 0, 66, 4, 21, 5, 21, 7, 96, 42, 180, 0, 7, 112, 96, 46, 96, 54, 6]
abbrev dktX4_tight_3 : List UInt8 := dkwX4_tight_3 ++ dktX4_tight_4
def dkwX4_tight_2 : List UInt8 := [162, 0, 74, 27, 42, 180, 0, 7, 163, 0, 66, 3, 54, 6, 3, 54, 7, 21, 7, 27, 162, 0, 31]
abbrev dktX4_tight_2 : List UInt8 := dkwX4_tight_2 ++ dktX4_tight_3
def dkwX4_tight_1 : List UInt8 := [182, 1, 21, 154, 0, 5, 3, 172, 2, 62, 2, 54, 4, 3, 54, 5, 21, 5, 42, 180, 0, 7]
abbrev dktX4_tight_1 : List UInt8 := dkwX4_tight_1 ++ dktX4_tight_2
def dkwX4_tight_0 : List UInt8 := [42, 3, 181, 0, 117, 42, 28, 4, 182, 1, 122, 153, 0, 18, 42, 27, 4, 16, 12, 184, 1, 106, 5]
abbrev dktX4_tight_0 : List UInt8 := dkwX4_tight_0 ++ dktX4_tight_1
theorem dksX4_tight_0 : cX4_tight.data.toList.drop 0 = dktX4_tight_0 := by decide +kernel
theorem dksX4_tight_1 : cX4_tight.data.toList.drop 23 = dktX4_tight_1 := dk_seg dksX4_tight_0 23 rfl rfl
theorem dksX4_tight_2 : cX4_tight.data.toList.drop 45 = dktX4_tight_2 := dk_seg dksX4_tight_1 22 rfl rfl
theorem dksX4_tight_3 : cX4_tight.data.toList.drop 68 = dktX4_tight_3 := dk_seg dksX4_tight_2 23 rfl rfl
theorem dksX4_tight_4 : cX4_tight.data.toList.drop 90 = dktX4_tight_4 := dk_seg dksX4_tight_3 22 rfl rfl
theorem dksX4_tight_5 : cX4_tight.data.toList.drop 113 = dktX4_tight_5 := dk_seg dksX4_tight_4 23 rfl rfl
theorem dX4_tight_0 : decode cX4_tight 0 = .ok (.aload_n 0, 1) := dk_42 (dk_at dksX4_tight_0 0 rfl rfl)
theorem dX4_tight_1 : decode cX4_tight 1 = .ok (.iconst 0, 1) := dk_3 (dk_at dksX4_tight_0 1 rfl rfl)
theorem dX4_tight_2 : decode cX4_tight 2 = .ok (.putfield 117, 3) := dk_181 0 117 (dk_at dksX4_tight_0 2 rfl rfl)
theorem dX4_tight_5 : decode cX4_tight 5 = .ok (.aload_n 0, 1) := dk_42 (dk_at dksX4_tight_0 5 rfl rfl)
theorem dX4_tight_6 : decode cX4_tight 6 = .ok (.iload_n 2, 1) := dk_28 (dk_at dksX4_tight_0 6 rfl rfl)
theorem dX4_tight_7 : decode cX4_tight 7 = .ok (.iconst 1, 1) := dk_4 (dk_at dksX4_tight_0 7 rfl rfl)
theorem dX4_tight_8 : decode cX4_tight 8 = .ok (.invokevirtual 378, 3) := dk_182 1 122 (dk_at dksX4_tight_0 8 rfl rfl)
theorem dX4_tight_11 : decode cX4_tight 11 = .ok (.ifCond .eq 18, 3) := dk_153 0 18 (dk_at dksX4_tight_0 11 rfl rfl)
theorem dX4_tight_14 : decode cX4_tight 14 = .ok (.aload_n 0, 1) := dk_42 (dk_at dksX4_tight_0 14 rfl rfl)
theorem dX4_tight_15 : decode cX4_tight 15 = .ok (.iload_n 1, 1) := dk_27 (dk_at dksX4_tight_0 15 rfl rfl)
theorem dX4_tight_16 : decode cX4_tight 16 = .ok (.iconst 1, 1) := dk_4 (dk_at dksX4_tight_0 16 rfl rfl)
theorem dX4_tight_17 : decode cX4_tight 17 = .ok (.bipush 12, 2) := dk_16 12 (dk_at dksX4_tight_0 17 rfl rfl)
theorem dX4_tight_19 : decode cX4_tight 19 = .ok (.invokestatic 362, 3) := dk_184 1 106 (dk_at dksX4_tight_0 19 rfl rfl)
theorem dX4_tight_22 : decode cX4_tight 22 = .ok (.iconst 2, 1) := dk_5 (dk_at dksX4_tight_0 22 rfl rfl)
theorem dX4_tight_23 : decode cX4_tight 23 = .ok (.invokevirtual 277, 3) := dk_182 1 21 (dk_at dksX4_tight_1 0 rfl rfl)
theorem dX4_tight_26 : decode cX4_tight 26 = .ok (.ifCond .ne 5, 3) := dk_154 0 5 (dk_at dksX4_tight_1 3 rfl rfl)
theorem dX4_tight_29 : decode cX4_tight 29 = .ok (.iconst 0, 1) := dk_3 (dk_at dksX4_tight_1 6 rfl rfl)
theorem dX4_tight_30 : decode cX4_tight 30 = .ok (.ireturn, 1) := dk_172 (dk_at dksX4_tight_1 7 rfl rfl)
theorem dX4_tight_31 : decode cX4_tight 31 = .ok (.iconst (-1), 1) := dk_2 (dk_at dksX4_tight_1 8 rfl rfl)
theorem dX4_tight_32 : decode cX4_tight 32 = .ok (.istore_n 3, 1) := dk_62 (dk_at dksX4_tight_1 9 rfl rfl)
theorem dX4_tight_33 : decode cX4_tight 33 = .ok (.iconst (-1), 1) := dk_2 (dk_at dksX4_tight_1 10 rfl rfl)
theorem dX4_tight_34 : decode cX4_tight 34 = .ok (.istore 4, 2) := dk_54 4 (dk_at dksX4_tight_1 11 rfl rfl)
theorem dX4_tight_36 : decode cX4_tight 36 = .ok (.iconst 0, 1) := dk_3 (dk_at dksX4_tight_1 13 rfl rfl)
theorem dX4_tight_37 : decode cX4_tight 37 = .ok (.istore 5, 2) := dk_54 5 (dk_at dksX4_tight_1 14 rfl rfl)
theorem dX4_tight_39 : decode cX4_tight 39 = .ok (.iload 5, 2) := dk_21 5 (dk_at dksX4_tight_1 16 rfl rfl)
theorem dX4_tight_41 : decode cX4_tight 41 = .ok (.aload_n 0, 1) := dk_42 (dk_at dksX4_tight_1 18 rfl rfl)
theorem dX4_tight_42 : decode cX4_tight 42 = .ok (.getfield 7, 3) := dk_180 0 7 (dk_at dksX4_tight_1 19 rfl rfl)
theorem dX4_tight_45 : decode cX4_tight 45 = .ok (.if_icmp .ge 74, 3) := dk_162 0 74 (dk_at dksX4_tight_2 0 rfl rfl)
theorem dX4_tight_48 : decode cX4_tight 48 = .ok (.iload_n 1, 1) := dk_27 (dk_at dksX4_tight_2 3 rfl rfl)
theorem dX4_tight_49 : decode cX4_tight 49 = .ok (.aload_n 0, 1) := dk_42 (dk_at dksX4_tight_2 4 rfl rfl)
theorem dX4_tight_50 : decode cX4_tight 50 = .ok (.getfield 7, 3) := dk_180 0 7 (dk_at dksX4_tight_2 5 rfl rfl)
theorem dX4_tight_53 : decode cX4_tight 53 = .ok (.if_icmp .gt 66, 3) := dk_163 0 66 (dk_at dksX4_tight_2 8 rfl rfl)
theorem dX4_tight_56 : decode cX4_tight 56 = .ok (.iconst 0, 1) := dk_3 (dk_at dksX4_tight_2 11 rfl rfl)
theorem dX4_tight_57 : decode cX4_tight 57 = .ok (.istore 6, 2) := dk_54 6 (dk_at dksX4_tight_2 12 rfl rfl)
theorem dX4_tight_59 : decode cX4_tight 59 = .ok (.iconst 0, 1) := dk_3 (dk_at dksX4_tight_2 14 rfl rfl)
theorem dX4_tight_60 : decode cX4_tight 60 = .ok (.istore 7, 2) := dk_54 7 (dk_at dksX4_tight_2 15 rfl rfl)
theorem dX4_tight_62 : decode cX4_tight 62 = .ok (.iload 7, 2) := dk_21 7 (dk_at dksX4_tight_2 17 rfl rfl)
theorem dX4_tight_64 : decode cX4_tight 64 = .ok (.iload_n 1, 1) := dk_27 (dk_at dksX4_tight_2 19 rfl rfl)
theorem dX4_tight_65 : decode cX4_tight 65 = .ok (.if_icmp .ge 31, 3) := dk_162 0 31 (dk_at dksX4_tight_2 20 rfl rfl)
theorem dX4_tight_68 : decode cX4_tight 68 = .ok (.iload 6, 2) := dk_21 6 (dk_at dksX4_tight_3 0 rfl rfl)
theorem dX4_tight_70 : decode cX4_tight 70 = .ok (.aload_n 0, 1) := dk_42 (dk_at dksX4_tight_3 2 rfl rfl)
theorem dX4_tight_71 : decode cX4_tight 71 = .ok (.getfield 66, 3) := dk_180 0 66 (dk_at dksX4_tight_3 3 rfl rfl)
theorem dX4_tight_74 : decode cX4_tight 74 = .ok (.iconst 1, 1) := dk_4 (dk_at dksX4_tight_3 6 rfl rfl)
theorem dX4_tight_75 : decode cX4_tight 75 = .ok (.iload 5, 2) := dk_21 5 (dk_at dksX4_tight_3 7 rfl rfl)
theorem dX4_tight_77 : decode cX4_tight 77 = .ok (.iload 7, 2) := dk_21 7 (dk_at dksX4_tight_3 9 rfl rfl)
theorem dX4_tight_79 : decode cX4_tight 79 = .ok (.iadd, 1) := dk_96 (dk_at dksX4_tight_3 11 rfl rfl)
theorem dX4_tight_80 : decode cX4_tight 80 = .ok (.aload_n 0, 1) := dk_42 (dk_at dksX4_tight_3 12 rfl rfl)
theorem dX4_tight_81 : decode cX4_tight 81 = .ok (.getfield 7, 3) := dk_180 0 7 (dk_at dksX4_tight_3 13 rfl rfl)
theorem dX4_tight_84 : decode cX4_tight 84 = .ok (.irem, 1) := dk_112 (dk_at dksX4_tight_3 16 rfl rfl)
theorem dX4_tight_85 : decode cX4_tight 85 = .ok (.iadd, 1) := dk_96 (dk_at dksX4_tight_3 17 rfl rfl)
theorem dX4_tight_86 : decode cX4_tight 86 = .ok (.iaload, 1) := dk_46 (dk_at dksX4_tight_3 18 rfl rfl)
theorem dX4_tight_87 : decode cX4_tight 87 = .ok (.iadd, 1) := dk_96 (dk_at dksX4_tight_3 19 rfl rfl)
theorem dX4_tight_88 : decode cX4_tight 88 = .ok (.istore 6, 2) := dk_54 6 (dk_at dksX4_tight_3 20 rfl rfl)
theorem dX4_tight_90 : decode cX4_tight 90 = .ok (.iinc 7 1, 3) := dk_132 7 1 (dk_at dksX4_tight_4 0 rfl rfl)
theorem dX4_tight_93 : decode cX4_tight 93 = .ok (.goto (-31), 3) := dk_167 255 225 (dk_at dksX4_tight_4 3 rfl rfl)
theorem dX4_tight_96 : decode cX4_tight 96 = .ok (.iload 6, 2) := dk_21 6 (dk_at dksX4_tight_4 6 rfl rfl)
theorem dX4_tight_98 : decode cX4_tight 98 = .ok (.iload 4, 2) := dk_21 4 (dk_at dksX4_tight_4 8 rfl rfl)
theorem dX4_tight_100 : decode cX4_tight 100 = .ok (.if_icmp .gt 6, 3) := dk_163 0 6 (dk_at dksX4_tight_4 10 rfl rfl)
theorem dX4_tight_103 : decode cX4_tight 103 = .ok (.goto 10, 3) := dk_167 0 10 (dk_at dksX4_tight_4 13 rfl rfl)
theorem dX4_tight_106 : decode cX4_tight 106 = .ok (.iload 5, 2) := dk_21 5 (dk_at dksX4_tight_4 16 rfl rfl)
theorem dX4_tight_108 : decode cX4_tight 108 = .ok (.istore_n 3, 1) := dk_62 (dk_at dksX4_tight_4 18 rfl rfl)
theorem dX4_tight_109 : decode cX4_tight 109 = .ok (.iload 6, 2) := dk_21 6 (dk_at dksX4_tight_4 19 rfl rfl)
theorem dX4_tight_111 : decode cX4_tight 111 = .ok (.istore 4, 2) := dk_54 4 (dk_at dksX4_tight_4 21 rfl rfl)
theorem dX4_tight_113 : decode cX4_tight 113 = .ok (.iinc 5 1, 3) := dk_132 5 1 (dk_at dksX4_tight_5 0 rfl rfl)
theorem dX4_tight_116 : decode cX4_tight 116 = .ok (.goto (-77), 3) := dk_167 255 179 (dk_at dksX4_tight_5 3 rfl rfl)
theorem dX4_tight_119 : decode cX4_tight 119 = .ok (.iload_n 2, 1) := dk_28 (dk_at dksX4_tight_5 6 rfl rfl)
theorem dX4_tight_120 : decode cX4_tight 120 = .ok (.ifCond .ne 8, 3) := dk_154 0 8 (dk_at dksX4_tight_5 7 rfl rfl)
theorem dX4_tight_123 : decode cX4_tight 123 = .ok (.iload 4, 2) := dk_21 4 (dk_at dksX4_tight_5 10 rfl rfl)
theorem dX4_tight_125 : decode cX4_tight 125 = .ok (.goto 4, 3) := dk_167 0 4 (dk_at dksX4_tight_5 12 rfl rfl)
theorem dX4_tight_128 : decode cX4_tight 128 = .ok (.iload_n 3, 1) := dk_29 (dk_at dksX4_tight_5 15 rfl rfl)
theorem dX4_tight_129 : decode cX4_tight 129 = .ok (.ireturn, 1) := dk_172 (dk_at dksX4_tight_5 16 rfl rfl)
abbrev cX4_gaps : ByteArray := prog_12_method_95_code
def yX4_gaps : MethodName := ⟨RX4, "gaps", "()I"⟩
def dkwX4_gaps_3 : List UInt8 := [172]
abbrev dktX4_gaps_3 : List UInt8 := dkwX4_gaps_3 ++ []
def dkwX4_gaps_2 : List UInt8 := [132, 2, 1, 167, 255, 215, 27, 154, 0, 16, 42, 3, 3, 182, 1, 70, 153, 0, 7, 4, 167, 0, 4, 27]
abbrev dktX4_gaps_2 : List UInt8 := dkwX4_gaps_2 ++ dktX4_gaps_3
def dkwX4_gaps_1 : List UInt8 := [153, 0, 20, 42, 3, 42, 28, 182, 1, 52, 182, 1, 70, 154, 0, 7, 4, 167, 0, 4, 3, 96, 60]
abbrev dktX4_gaps_1 : List UInt8 := dkwX4_gaps_1 ++ dktX4_gaps_2
def dkwX4_gaps_0 : List UInt8 := [42, 3, 181, 0, 117, 3, 60, 3, 61, 28, 42, 180, 0, 7, 162, 0, 39, 27, 42, 3, 28, 182, 1, 70]
abbrev dktX4_gaps_0 : List UInt8 := dkwX4_gaps_0 ++ dktX4_gaps_1
theorem dksX4_gaps_0 : cX4_gaps.data.toList.drop 0 = dktX4_gaps_0 := by decide +kernel
theorem dksX4_gaps_1 : cX4_gaps.data.toList.drop 24 = dktX4_gaps_1 := dk_seg dksX4_gaps_0 24 rfl rfl
theorem dksX4_gaps_2 : cX4_gaps.data.toList.drop 47 = dktX4_gaps_2 := dk_seg dksX4_gaps_1 23 rfl rfl
theorem dksX4_gaps_3 : cX4_gaps.data.toList.drop 71 = dktX4_gaps_3 := dk_seg dksX4_gaps_2 24 rfl rfl
theorem dX4_gaps_0 : decode cX4_gaps 0 = .ok (.aload_n 0, 1) := dk_42 (dk_at dksX4_gaps_0 0 rfl rfl)
theorem dX4_gaps_1 : decode cX4_gaps 1 = .ok (.iconst 0, 1) := dk_3 (dk_at dksX4_gaps_0 1 rfl rfl)
theorem dX4_gaps_2 : decode cX4_gaps 2 = .ok (.putfield 117, 3) := dk_181 0 117 (dk_at dksX4_gaps_0 2 rfl rfl)
theorem dX4_gaps_5 : decode cX4_gaps 5 = .ok (.iconst 0, 1) := dk_3 (dk_at dksX4_gaps_0 5 rfl rfl)
theorem dX4_gaps_6 : decode cX4_gaps 6 = .ok (.istore_n 1, 1) := dk_60 (dk_at dksX4_gaps_0 6 rfl rfl)
theorem dX4_gaps_7 : decode cX4_gaps 7 = .ok (.iconst 0, 1) := dk_3 (dk_at dksX4_gaps_0 7 rfl rfl)
theorem dX4_gaps_8 : decode cX4_gaps 8 = .ok (.istore_n 2, 1) := dk_61 (dk_at dksX4_gaps_0 8 rfl rfl)
theorem dX4_gaps_9 : decode cX4_gaps 9 = .ok (.iload_n 2, 1) := dk_28 (dk_at dksX4_gaps_0 9 rfl rfl)
theorem dX4_gaps_10 : decode cX4_gaps 10 = .ok (.aload_n 0, 1) := dk_42 (dk_at dksX4_gaps_0 10 rfl rfl)
theorem dX4_gaps_11 : decode cX4_gaps 11 = .ok (.getfield 7, 3) := dk_180 0 7 (dk_at dksX4_gaps_0 11 rfl rfl)
theorem dX4_gaps_14 : decode cX4_gaps 14 = .ok (.if_icmp .ge 39, 3) := dk_162 0 39 (dk_at dksX4_gaps_0 14 rfl rfl)
theorem dX4_gaps_17 : decode cX4_gaps 17 = .ok (.iload_n 1, 1) := dk_27 (dk_at dksX4_gaps_0 17 rfl rfl)
theorem dX4_gaps_18 : decode cX4_gaps 18 = .ok (.aload_n 0, 1) := dk_42 (dk_at dksX4_gaps_0 18 rfl rfl)
theorem dX4_gaps_19 : decode cX4_gaps 19 = .ok (.iconst 0, 1) := dk_3 (dk_at dksX4_gaps_0 19 rfl rfl)
theorem dX4_gaps_20 : decode cX4_gaps 20 = .ok (.iload_n 2, 1) := dk_28 (dk_at dksX4_gaps_0 20 rfl rfl)
theorem dX4_gaps_21 : decode cX4_gaps 21 = .ok (.invokevirtual 326, 3) := dk_182 1 70 (dk_at dksX4_gaps_0 21 rfl rfl)
theorem dX4_gaps_24 : decode cX4_gaps 24 = .ok (.ifCond .eq 20, 3) := dk_153 0 20 (dk_at dksX4_gaps_1 0 rfl rfl)
theorem dX4_gaps_27 : decode cX4_gaps 27 = .ok (.aload_n 0, 1) := dk_42 (dk_at dksX4_gaps_1 3 rfl rfl)
theorem dX4_gaps_28 : decode cX4_gaps 28 = .ok (.iconst 0, 1) := dk_3 (dk_at dksX4_gaps_1 4 rfl rfl)
theorem dX4_gaps_29 : decode cX4_gaps 29 = .ok (.aload_n 0, 1) := dk_42 (dk_at dksX4_gaps_1 5 rfl rfl)
theorem dX4_gaps_30 : decode cX4_gaps 30 = .ok (.iload_n 2, 1) := dk_28 (dk_at dksX4_gaps_1 6 rfl rfl)
theorem dX4_gaps_31 : decode cX4_gaps 31 = .ok (.invokevirtual 308, 3) := dk_182 1 52 (dk_at dksX4_gaps_1 7 rfl rfl)
theorem dX4_gaps_34 : decode cX4_gaps 34 = .ok (.invokevirtual 326, 3) := dk_182 1 70 (dk_at dksX4_gaps_1 10 rfl rfl)
theorem dX4_gaps_37 : decode cX4_gaps 37 = .ok (.ifCond .ne 7, 3) := dk_154 0 7 (dk_at dksX4_gaps_1 13 rfl rfl)
theorem dX4_gaps_40 : decode cX4_gaps 40 = .ok (.iconst 1, 1) := dk_4 (dk_at dksX4_gaps_1 16 rfl rfl)
theorem dX4_gaps_41 : decode cX4_gaps 41 = .ok (.goto 4, 3) := dk_167 0 4 (dk_at dksX4_gaps_1 17 rfl rfl)
theorem dX4_gaps_44 : decode cX4_gaps 44 = .ok (.iconst 0, 1) := dk_3 (dk_at dksX4_gaps_1 20 rfl rfl)
theorem dX4_gaps_45 : decode cX4_gaps 45 = .ok (.iadd, 1) := dk_96 (dk_at dksX4_gaps_1 21 rfl rfl)
theorem dX4_gaps_46 : decode cX4_gaps 46 = .ok (.istore_n 1, 1) := dk_60 (dk_at dksX4_gaps_1 22 rfl rfl)
theorem dX4_gaps_47 : decode cX4_gaps 47 = .ok (.iinc 2 1, 3) := dk_132 2 1 (dk_at dksX4_gaps_2 0 rfl rfl)
theorem dX4_gaps_50 : decode cX4_gaps 50 = .ok (.goto (-41), 3) := dk_167 255 215 (dk_at dksX4_gaps_2 3 rfl rfl)
theorem dX4_gaps_53 : decode cX4_gaps 53 = .ok (.iload_n 1, 1) := dk_27 (dk_at dksX4_gaps_2 6 rfl rfl)
theorem dX4_gaps_54 : decode cX4_gaps 54 = .ok (.ifCond .ne 16, 3) := dk_154 0 16 (dk_at dksX4_gaps_2 7 rfl rfl)
theorem dX4_gaps_57 : decode cX4_gaps 57 = .ok (.aload_n 0, 1) := dk_42 (dk_at dksX4_gaps_2 10 rfl rfl)
theorem dX4_gaps_58 : decode cX4_gaps 58 = .ok (.iconst 0, 1) := dk_3 (dk_at dksX4_gaps_2 11 rfl rfl)
theorem dX4_gaps_59 : decode cX4_gaps 59 = .ok (.iconst 0, 1) := dk_3 (dk_at dksX4_gaps_2 12 rfl rfl)
theorem dX4_gaps_60 : decode cX4_gaps 60 = .ok (.invokevirtual 326, 3) := dk_182 1 70 (dk_at dksX4_gaps_2 13 rfl rfl)
theorem dX4_gaps_63 : decode cX4_gaps 63 = .ok (.ifCond .eq 7, 3) := dk_153 0 7 (dk_at dksX4_gaps_2 16 rfl rfl)
theorem dX4_gaps_66 : decode cX4_gaps 66 = .ok (.iconst 1, 1) := dk_4 (dk_at dksX4_gaps_2 19 rfl rfl)
theorem dX4_gaps_67 : decode cX4_gaps 67 = .ok (.goto 4, 3) := dk_167 0 4 (dk_at dksX4_gaps_2 20 rfl rfl)
theorem dX4_gaps_70 : decode cX4_gaps 70 = .ok (.iload_n 1, 1) := dk_27 (dk_at dksX4_gaps_2 23 rfl rfl)
theorem dX4_gaps_71 : decode cX4_gaps 71 = .ok (.ireturn, 1) := dk_172 (dk_at dksX4_gaps_3 0 rfl rfl)
abbrev cX4_isHere : ByteArray := prog_12_method_96_code
def yX4_isHere : MethodName := ⟨RX4, "isHere", "(III)Z"⟩
def dkwX4_isHere_3 : List UInt8 := [172]
abbrev dktX4_isHere_3 : List UInt8 := dkwX4_isHere_3 ++ []
def dkwX4_isHere_2 : List UInt8 := [54, 4, 132, 5, 1, 167, 255, 225, 21, 4, 42, 180, 0, 26, 27, 46, 160, 0, 7, 4, 167, 0, 4, 3]
abbrev dktX4_isHere_2 : List UInt8 := dkwX4_isHere_2 ++ dktX4_isHere_3
def dkwX4_isHere_1 : List UInt8 := [180, 0, 29, 27, 46, 162, 0, 26, 16, 10, 21, 4, 104, 42, 180, 0, 87, 28, 21, 5, 96, 46, 96]
abbrev dktX4_isHere_1 : List UInt8 := dkwX4_isHere_1 ++ dktX4_isHere_2
def dkwX4_isHere_0 : List UInt8 := [28, 42, 180, 0, 29, 27, 46, 96, 29, 164, 0, 5, 3, 172, 3, 54, 4, 3, 54, 5, 21, 5, 42]
abbrev dktX4_isHere_0 : List UInt8 := dkwX4_isHere_0 ++ dktX4_isHere_1
theorem dksX4_isHere_0 : cX4_isHere.data.toList.drop 0 = dktX4_isHere_0 := by decide +kernel
theorem dksX4_isHere_1 : cX4_isHere.data.toList.drop 23 = dktX4_isHere_1 := dk_seg dksX4_isHere_0 23 rfl rfl
theorem dksX4_isHere_2 : cX4_isHere.data.toList.drop 46 = dktX4_isHere_2 := dk_seg dksX4_isHere_1 23 rfl rfl
theorem dksX4_isHere_3 : cX4_isHere.data.toList.drop 70 = dktX4_isHere_3 := dk_seg dksX4_isHere_2 24 rfl rfl
theorem dX4_isHere_0 : decode cX4_isHere 0 = .ok (.iload_n 2, 1) := dk_28 (dk_at dksX4_isHere_0 0 rfl rfl)
theorem dX4_isHere_1 : decode cX4_isHere 1 = .ok (.aload_n 0, 1) := dk_42 (dk_at dksX4_isHere_0 1 rfl rfl)
theorem dX4_isHere_2 : decode cX4_isHere 2 = .ok (.getfield 29, 3) := dk_180 0 29 (dk_at dksX4_isHere_0 2 rfl rfl)
theorem dX4_isHere_5 : decode cX4_isHere 5 = .ok (.iload_n 1, 1) := dk_27 (dk_at dksX4_isHere_0 5 rfl rfl)
theorem dX4_isHere_6 : decode cX4_isHere 6 = .ok (.iaload, 1) := dk_46 (dk_at dksX4_isHere_0 6 rfl rfl)
theorem dX4_isHere_7 : decode cX4_isHere 7 = .ok (.iadd, 1) := dk_96 (dk_at dksX4_isHere_0 7 rfl rfl)
theorem dX4_isHere_8 : decode cX4_isHere 8 = .ok (.iload_n 3, 1) := dk_29 (dk_at dksX4_isHere_0 8 rfl rfl)
theorem dX4_isHere_9 : decode cX4_isHere 9 = .ok (.if_icmp .le 5, 3) := dk_164 0 5 (dk_at dksX4_isHere_0 9 rfl rfl)
theorem dX4_isHere_12 : decode cX4_isHere 12 = .ok (.iconst 0, 1) := dk_3 (dk_at dksX4_isHere_0 12 rfl rfl)
theorem dX4_isHere_13 : decode cX4_isHere 13 = .ok (.ireturn, 1) := dk_172 (dk_at dksX4_isHere_0 13 rfl rfl)
theorem dX4_isHere_14 : decode cX4_isHere 14 = .ok (.iconst 0, 1) := dk_3 (dk_at dksX4_isHere_0 14 rfl rfl)
theorem dX4_isHere_15 : decode cX4_isHere 15 = .ok (.istore 4, 2) := dk_54 4 (dk_at dksX4_isHere_0 15 rfl rfl)
theorem dX4_isHere_17 : decode cX4_isHere 17 = .ok (.iconst 0, 1) := dk_3 (dk_at dksX4_isHere_0 17 rfl rfl)
theorem dX4_isHere_18 : decode cX4_isHere 18 = .ok (.istore 5, 2) := dk_54 5 (dk_at dksX4_isHere_0 18 rfl rfl)
theorem dX4_isHere_20 : decode cX4_isHere 20 = .ok (.iload 5, 2) := dk_21 5 (dk_at dksX4_isHere_0 20 rfl rfl)
theorem dX4_isHere_22 : decode cX4_isHere 22 = .ok (.aload_n 0, 1) := dk_42 (dk_at dksX4_isHere_0 22 rfl rfl)
theorem dX4_isHere_23 : decode cX4_isHere 23 = .ok (.getfield 29, 3) := dk_180 0 29 (dk_at dksX4_isHere_1 0 rfl rfl)
theorem dX4_isHere_26 : decode cX4_isHere 26 = .ok (.iload_n 1, 1) := dk_27 (dk_at dksX4_isHere_1 3 rfl rfl)
theorem dX4_isHere_27 : decode cX4_isHere 27 = .ok (.iaload, 1) := dk_46 (dk_at dksX4_isHere_1 4 rfl rfl)
theorem dX4_isHere_28 : decode cX4_isHere 28 = .ok (.if_icmp .ge 26, 3) := dk_162 0 26 (dk_at dksX4_isHere_1 5 rfl rfl)
theorem dX4_isHere_31 : decode cX4_isHere 31 = .ok (.bipush 10, 2) := dk_16 10 (dk_at dksX4_isHere_1 8 rfl rfl)
theorem dX4_isHere_33 : decode cX4_isHere 33 = .ok (.iload 4, 2) := dk_21 4 (dk_at dksX4_isHere_1 10 rfl rfl)
theorem dX4_isHere_35 : decode cX4_isHere 35 = .ok (.imul, 1) := dk_104 (dk_at dksX4_isHere_1 12 rfl rfl)
theorem dX4_isHere_36 : decode cX4_isHere 36 = .ok (.aload_n 0, 1) := dk_42 (dk_at dksX4_isHere_1 13 rfl rfl)
theorem dX4_isHere_37 : decode cX4_isHere 37 = .ok (.getfield 87, 3) := dk_180 0 87 (dk_at dksX4_isHere_1 14 rfl rfl)
theorem dX4_isHere_40 : decode cX4_isHere 40 = .ok (.iload_n 2, 1) := dk_28 (dk_at dksX4_isHere_1 17 rfl rfl)
theorem dX4_isHere_41 : decode cX4_isHere 41 = .ok (.iload 5, 2) := dk_21 5 (dk_at dksX4_isHere_1 18 rfl rfl)
theorem dX4_isHere_43 : decode cX4_isHere 43 = .ok (.iadd, 1) := dk_96 (dk_at dksX4_isHere_1 20 rfl rfl)
theorem dX4_isHere_44 : decode cX4_isHere 44 = .ok (.iaload, 1) := dk_46 (dk_at dksX4_isHere_1 21 rfl rfl)
theorem dX4_isHere_45 : decode cX4_isHere 45 = .ok (.iadd, 1) := dk_96 (dk_at dksX4_isHere_1 22 rfl rfl)
theorem dX4_isHere_46 : decode cX4_isHere 46 = .ok (.istore 4, 2) := dk_54 4 (dk_at dksX4_isHere_2 0 rfl rfl)
theorem dX4_isHere_48 : decode cX4_isHere 48 = .ok (.iinc 5 1, 3) := dk_132 5 1 (dk_at dksX4_isHere_2 2 rfl rfl)
theorem dX4_isHere_51 : decode cX4_isHere 51 = .ok (.goto (-31), 3) := dk_167 255 225 (dk_at dksX4_isHere_2 5 rfl rfl)
theorem dX4_isHere_54 : decode cX4_isHere 54 = .ok (.iload 4, 2) := dk_21 4 (dk_at dksX4_isHere_2 8 rfl rfl)
theorem dX4_isHere_56 : decode cX4_isHere 56 = .ok (.aload_n 0, 1) := dk_42 (dk_at dksX4_isHere_2 10 rfl rfl)
theorem dX4_isHere_57 : decode cX4_isHere 57 = .ok (.getfield 26, 3) := dk_180 0 26 (dk_at dksX4_isHere_2 11 rfl rfl)
theorem dX4_isHere_60 : decode cX4_isHere 60 = .ok (.iload_n 1, 1) := dk_27 (dk_at dksX4_isHere_2 14 rfl rfl)
theorem dX4_isHere_61 : decode cX4_isHere 61 = .ok (.iaload, 1) := dk_46 (dk_at dksX4_isHere_2 15 rfl rfl)
theorem dX4_isHere_62 : decode cX4_isHere 62 = .ok (.if_icmp .ne 7, 3) := dk_160 0 7 (dk_at dksX4_isHere_2 16 rfl rfl)
theorem dX4_isHere_65 : decode cX4_isHere 65 = .ok (.iconst 1, 1) := dk_4 (dk_at dksX4_isHere_2 19 rfl rfl)
theorem dX4_isHere_66 : decode cX4_isHere 66 = .ok (.goto 4, 3) := dk_167 0 4 (dk_at dksX4_isHere_2 20 rfl rfl)
theorem dX4_isHere_69 : decode cX4_isHere 69 = .ok (.iconst 0, 1) := dk_3 (dk_at dksX4_isHere_2 23 rfl rfl)
theorem dX4_isHere_70 : decode cX4_isHere 70 = .ok (.ireturn, 1) := dk_172 (dk_at dksX4_isHere_3 0 rfl rfl)
abbrev cX4_readings : ByteArray := prog_12_method_97_code
def yX4_readings : MethodName := ⟨RX4, "readings", "(II)I"⟩
def dkwX4_readings_11 : List UInt8 := [180, 0, 93, 3, 46, 19, 1, 150, 161, 0, 7, 2, 167, 0, 9, 42, 180, 0, 93, 3, 46, 172]
abbrev dktX4_readings_11 : List UInt8 := dkwX4_readings_11 ++ []
def dkwX4_readings_10 : List UInt8 := [167, 255, 164, 132, 5, 255, 167, 255, 112, 28, 154, 0, 12, 42, 180, 0, 90, 3, 46, 167, 0, 25, 42]
abbrev dktX4_readings_10 : List UInt8 := dkwX4_readings_10 ++ dktX4_readings_11
def dkwX4_readings_9 : List UInt8 := [42, 180, 0, 93, 21, 5, 42, 180, 0, 29, 21, 6, 46, 96, 46, 96, 184, 1, 80, 79, 132, 6, 1]
abbrev dktX4_readings_9 : List UInt8 := dkwX4_readings_9 ++ dktX4_readings_10
def dkwX4_readings_8 : List UInt8 := [180, 0, 29, 21, 6, 46, 96, 46, 96, 79, 42, 180, 0, 93, 21, 5, 42, 180, 0, 93, 21, 5, 46, 4]
abbrev dktX4_readings_8 : List UInt8 := dkwX4_readings_8 ++ dktX4_readings_9
def dkwX4_readings_7 : List UInt8 := [182, 1, 161, 154, 0, 6, 167, 0, 62, 42, 180, 0, 90, 21, 5, 92, 46, 42, 180, 0, 90, 21, 5, 42]
abbrev dktX4_readings_7 : List UInt8 := dkwX4_readings_7 ++ dktX4_readings_8
def dkwX4_readings_6 : List UInt8 := [54, 6, 21, 6, 42, 180, 1, 31, 162, 0, 89, 21, 5, 29, 159, 0, 77, 42, 21, 6, 21, 5, 29]
abbrev dktX4_readings_6 : List UInt8 := dkwX4_readings_6 ++ dktX4_readings_7
def dkwX4_readings_5 : List UInt8 := [3, 79, 42, 180, 0, 93, 21, 5, 21, 5, 29, 160, 0, 7, 3, 167, 0, 6, 19, 1, 150, 79, 3]
abbrev dktX4_readings_5 : List UInt8 := dkwX4_readings_5 ++ dktX4_readings_6
def dkwX4_readings_4 : List UInt8 := [29, 54, 5, 21, 5, 155, 0, 145, 42, 180, 0, 90, 21, 5, 21, 5, 29, 160, 0, 7, 4, 167, 0, 4]
abbrev dktX4_readings_4 : List UInt8 := dkwX4_readings_4 ++ dktX4_readings_5
def dkwX4_readings_3 : List UInt8 := [180, 0, 87, 21, 5, 21, 4, 16, 10, 112, 79, 21, 4, 16, 10, 108, 54, 4, 132, 5, 255, 167, 255, 229]
abbrev dktX4_readings_3 : List UInt8 := dkwX4_readings_3 ++ dktX4_readings_4
def dkwX4_readings_2 : List UInt8 := [21, 4, 16, 10, 108, 54, 4, 167, 255, 241, 27, 54, 4, 29, 4, 100, 54, 5, 21, 5, 155, 0, 28, 42]
abbrev dktX4_readings_2 : List UInt8 := dkwX4_readings_2 ++ dktX4_readings_3
def dkwX4_readings_1 : List UInt8 := [182, 1, 21, 154, 0, 5, 3, 172, 4, 62, 27, 16, 10, 108, 54, 4, 21, 4, 158, 0, 16, 132, 3, 1]
abbrev dktX4_readings_1 : List UInt8 := dkwX4_readings_1 ++ dktX4_readings_2
def dkwX4_readings_0 : List UInt8 := [42, 3, 181, 0, 117, 42, 28, 4, 182, 1, 122, 153, 0, 19, 42, 27, 3, 19, 1, 160, 184, 1, 106, 5]
abbrev dktX4_readings_0 : List UInt8 := dkwX4_readings_0 ++ dktX4_readings_1
theorem dksX4_readings_0 : cX4_readings.data.toList.drop 0 = dktX4_readings_0 := by decide +kernel
theorem dksX4_readings_1 : cX4_readings.data.toList.drop 24 = dktX4_readings_1 := dk_seg dksX4_readings_0 24 rfl rfl
theorem dksX4_readings_2 : cX4_readings.data.toList.drop 48 = dktX4_readings_2 := dk_seg dksX4_readings_1 24 rfl rfl
theorem dksX4_readings_3 : cX4_readings.data.toList.drop 72 = dktX4_readings_3 := dk_seg dksX4_readings_2 24 rfl rfl
theorem dksX4_readings_4 : cX4_readings.data.toList.drop 96 = dktX4_readings_4 := dk_seg dksX4_readings_3 24 rfl rfl
theorem dksX4_readings_5 : cX4_readings.data.toList.drop 120 = dktX4_readings_5 := dk_seg dksX4_readings_4 24 rfl rfl
theorem dksX4_readings_6 : cX4_readings.data.toList.drop 143 = dktX4_readings_6 := dk_seg dksX4_readings_5 23 rfl rfl
theorem dksX4_readings_7 : cX4_readings.data.toList.drop 166 = dktX4_readings_7 := dk_seg dksX4_readings_6 23 rfl rfl
theorem dksX4_readings_8 : cX4_readings.data.toList.drop 190 = dktX4_readings_8 := dk_seg dksX4_readings_7 24 rfl rfl
theorem dksX4_readings_9 : cX4_readings.data.toList.drop 214 = dktX4_readings_9 := dk_seg dksX4_readings_8 24 rfl rfl
theorem dksX4_readings_10 : cX4_readings.data.toList.drop 237 = dktX4_readings_10 := dk_seg dksX4_readings_9 23 rfl rfl
theorem dksX4_readings_11 : cX4_readings.data.toList.drop 260 = dktX4_readings_11 := dk_seg dksX4_readings_10 23 rfl rfl
theorem dX4_readings_0 : decode cX4_readings 0 = .ok (.aload_n 0, 1) := dk_42 (dk_at dksX4_readings_0 0 rfl rfl)
theorem dX4_readings_1 : decode cX4_readings 1 = .ok (.iconst 0, 1) := dk_3 (dk_at dksX4_readings_0 1 rfl rfl)
theorem dX4_readings_2 : decode cX4_readings 2 = .ok (.putfield 117, 3) := dk_181 0 117 (dk_at dksX4_readings_0 2 rfl rfl)
theorem dX4_readings_5 : decode cX4_readings 5 = .ok (.aload_n 0, 1) := dk_42 (dk_at dksX4_readings_0 5 rfl rfl)
theorem dX4_readings_6 : decode cX4_readings 6 = .ok (.iload_n 2, 1) := dk_28 (dk_at dksX4_readings_0 6 rfl rfl)
theorem dX4_readings_7 : decode cX4_readings 7 = .ok (.iconst 1, 1) := dk_4 (dk_at dksX4_readings_0 7 rfl rfl)
theorem dX4_readings_8 : decode cX4_readings 8 = .ok (.invokevirtual 378, 3) := dk_182 1 122 (dk_at dksX4_readings_0 8 rfl rfl)
theorem dX4_readings_11 : decode cX4_readings 11 = .ok (.ifCond .eq 19, 3) := dk_153 0 19 (dk_at dksX4_readings_0 11 rfl rfl)
theorem dX4_readings_14 : decode cX4_readings 14 = .ok (.aload_n 0, 1) := dk_42 (dk_at dksX4_readings_0 14 rfl rfl)
theorem dX4_readings_15 : decode cX4_readings 15 = .ok (.iload_n 1, 1) := dk_27 (dk_at dksX4_readings_0 15 rfl rfl)
theorem dX4_readings_16 : decode cX4_readings 16 = .ok (.iconst 0, 1) := dk_3 (dk_at dksX4_readings_0 16 rfl rfl)
theorem dX4_readings_17 : decode cX4_readings 17 = .ok (.ldc_w 416, 3) := dk_19 1 160 (dk_at dksX4_readings_0 17 rfl rfl)
theorem dX4_readings_20 : decode cX4_readings 20 = .ok (.invokestatic 362, 3) := dk_184 1 106 (dk_at dksX4_readings_0 20 rfl rfl)
theorem dX4_readings_23 : decode cX4_readings 23 = .ok (.iconst 2, 1) := dk_5 (dk_at dksX4_readings_0 23 rfl rfl)
theorem dX4_readings_24 : decode cX4_readings 24 = .ok (.invokevirtual 277, 3) := dk_182 1 21 (dk_at dksX4_readings_1 0 rfl rfl)
theorem dX4_readings_27 : decode cX4_readings 27 = .ok (.ifCond .ne 5, 3) := dk_154 0 5 (dk_at dksX4_readings_1 3 rfl rfl)
theorem dX4_readings_30 : decode cX4_readings 30 = .ok (.iconst 0, 1) := dk_3 (dk_at dksX4_readings_1 6 rfl rfl)
theorem dX4_readings_31 : decode cX4_readings 31 = .ok (.ireturn, 1) := dk_172 (dk_at dksX4_readings_1 7 rfl rfl)
theorem dX4_readings_32 : decode cX4_readings 32 = .ok (.iconst 1, 1) := dk_4 (dk_at dksX4_readings_1 8 rfl rfl)
theorem dX4_readings_33 : decode cX4_readings 33 = .ok (.istore_n 3, 1) := dk_62 (dk_at dksX4_readings_1 9 rfl rfl)
theorem dX4_readings_34 : decode cX4_readings 34 = .ok (.iload_n 1, 1) := dk_27 (dk_at dksX4_readings_1 10 rfl rfl)
theorem dX4_readings_35 : decode cX4_readings 35 = .ok (.bipush 10, 2) := dk_16 10 (dk_at dksX4_readings_1 11 rfl rfl)
theorem dX4_readings_37 : decode cX4_readings 37 = .ok (.idiv, 1) := dk_108 (dk_at dksX4_readings_1 13 rfl rfl)
theorem dX4_readings_38 : decode cX4_readings 38 = .ok (.istore 4, 2) := dk_54 4 (dk_at dksX4_readings_1 14 rfl rfl)
theorem dX4_readings_40 : decode cX4_readings 40 = .ok (.iload 4, 2) := dk_21 4 (dk_at dksX4_readings_1 16 rfl rfl)
theorem dX4_readings_42 : decode cX4_readings 42 = .ok (.ifCond .le 16, 3) := dk_158 0 16 (dk_at dksX4_readings_1 18 rfl rfl)
theorem dX4_readings_45 : decode cX4_readings 45 = .ok (.iinc 3 1, 3) := dk_132 3 1 (dk_at dksX4_readings_1 21 rfl rfl)
theorem dX4_readings_48 : decode cX4_readings 48 = .ok (.iload 4, 2) := dk_21 4 (dk_at dksX4_readings_2 0 rfl rfl)
theorem dX4_readings_50 : decode cX4_readings 50 = .ok (.bipush 10, 2) := dk_16 10 (dk_at dksX4_readings_2 2 rfl rfl)
theorem dX4_readings_52 : decode cX4_readings 52 = .ok (.idiv, 1) := dk_108 (dk_at dksX4_readings_2 4 rfl rfl)
theorem dX4_readings_53 : decode cX4_readings 53 = .ok (.istore 4, 2) := dk_54 4 (dk_at dksX4_readings_2 5 rfl rfl)
theorem dX4_readings_55 : decode cX4_readings 55 = .ok (.goto (-15), 3) := dk_167 255 241 (dk_at dksX4_readings_2 7 rfl rfl)
theorem dX4_readings_58 : decode cX4_readings 58 = .ok (.iload_n 1, 1) := dk_27 (dk_at dksX4_readings_2 10 rfl rfl)
theorem dX4_readings_59 : decode cX4_readings 59 = .ok (.istore 4, 2) := dk_54 4 (dk_at dksX4_readings_2 11 rfl rfl)
theorem dX4_readings_61 : decode cX4_readings 61 = .ok (.iload_n 3, 1) := dk_29 (dk_at dksX4_readings_2 13 rfl rfl)
theorem dX4_readings_62 : decode cX4_readings 62 = .ok (.iconst 1, 1) := dk_4 (dk_at dksX4_readings_2 14 rfl rfl)
theorem dX4_readings_63 : decode cX4_readings 63 = .ok (.isub, 1) := dk_100 (dk_at dksX4_readings_2 15 rfl rfl)
theorem dX4_readings_64 : decode cX4_readings 64 = .ok (.istore 5, 2) := dk_54 5 (dk_at dksX4_readings_2 16 rfl rfl)
theorem dX4_readings_66 : decode cX4_readings 66 = .ok (.iload 5, 2) := dk_21 5 (dk_at dksX4_readings_2 18 rfl rfl)
theorem dX4_readings_68 : decode cX4_readings 68 = .ok (.ifCond .lt 28, 3) := dk_155 0 28 (dk_at dksX4_readings_2 20 rfl rfl)
theorem dX4_readings_71 : decode cX4_readings 71 = .ok (.aload_n 0, 1) := dk_42 (dk_at dksX4_readings_2 23 rfl rfl)
theorem dX4_readings_72 : decode cX4_readings 72 = .ok (.getfield 87, 3) := dk_180 0 87 (dk_at dksX4_readings_3 0 rfl rfl)
theorem dX4_readings_75 : decode cX4_readings 75 = .ok (.iload 5, 2) := dk_21 5 (dk_at dksX4_readings_3 3 rfl rfl)
theorem dX4_readings_77 : decode cX4_readings 77 = .ok (.iload 4, 2) := dk_21 4 (dk_at dksX4_readings_3 5 rfl rfl)
theorem dX4_readings_79 : decode cX4_readings 79 = .ok (.bipush 10, 2) := dk_16 10 (dk_at dksX4_readings_3 7 rfl rfl)
theorem dX4_readings_81 : decode cX4_readings 81 = .ok (.irem, 1) := dk_112 (dk_at dksX4_readings_3 9 rfl rfl)
theorem dX4_readings_82 : decode cX4_readings 82 = .ok (.iastore, 1) := dk_79 (dk_at dksX4_readings_3 10 rfl rfl)
theorem dX4_readings_83 : decode cX4_readings 83 = .ok (.iload 4, 2) := dk_21 4 (dk_at dksX4_readings_3 11 rfl rfl)
theorem dX4_readings_85 : decode cX4_readings 85 = .ok (.bipush 10, 2) := dk_16 10 (dk_at dksX4_readings_3 13 rfl rfl)
theorem dX4_readings_87 : decode cX4_readings 87 = .ok (.idiv, 1) := dk_108 (dk_at dksX4_readings_3 15 rfl rfl)
theorem dX4_readings_88 : decode cX4_readings 88 = .ok (.istore 4, 2) := dk_54 4 (dk_at dksX4_readings_3 16 rfl rfl)
theorem dX4_readings_90 : decode cX4_readings 90 = .ok (.iinc 5 (-1), 3) := dk_132 5 255 (dk_at dksX4_readings_3 18 rfl rfl)
theorem dX4_readings_93 : decode cX4_readings 93 = .ok (.goto (-27), 3) := dk_167 255 229 (dk_at dksX4_readings_3 21 rfl rfl)
theorem dX4_readings_96 : decode cX4_readings 96 = .ok (.iload_n 3, 1) := dk_29 (dk_at dksX4_readings_4 0 rfl rfl)
theorem dX4_readings_97 : decode cX4_readings 97 = .ok (.istore 5, 2) := dk_54 5 (dk_at dksX4_readings_4 1 rfl rfl)
theorem dX4_readings_99 : decode cX4_readings 99 = .ok (.iload 5, 2) := dk_21 5 (dk_at dksX4_readings_4 3 rfl rfl)
theorem dX4_readings_101 : decode cX4_readings 101 = .ok (.ifCond .lt 145, 3) := dk_155 0 145 (dk_at dksX4_readings_4 5 rfl rfl)
theorem dX4_readings_104 : decode cX4_readings 104 = .ok (.aload_n 0, 1) := dk_42 (dk_at dksX4_readings_4 8 rfl rfl)
theorem dX4_readings_105 : decode cX4_readings 105 = .ok (.getfield 90, 3) := dk_180 0 90 (dk_at dksX4_readings_4 9 rfl rfl)
theorem dX4_readings_108 : decode cX4_readings 108 = .ok (.iload 5, 2) := dk_21 5 (dk_at dksX4_readings_4 12 rfl rfl)
theorem dX4_readings_110 : decode cX4_readings 110 = .ok (.iload 5, 2) := dk_21 5 (dk_at dksX4_readings_4 14 rfl rfl)
theorem dX4_readings_112 : decode cX4_readings 112 = .ok (.iload_n 3, 1) := dk_29 (dk_at dksX4_readings_4 16 rfl rfl)
theorem dX4_readings_113 : decode cX4_readings 113 = .ok (.if_icmp .ne 7, 3) := dk_160 0 7 (dk_at dksX4_readings_4 17 rfl rfl)
theorem dX4_readings_116 : decode cX4_readings 116 = .ok (.iconst 1, 1) := dk_4 (dk_at dksX4_readings_4 20 rfl rfl)
theorem dX4_readings_117 : decode cX4_readings 117 = .ok (.goto 4, 3) := dk_167 0 4 (dk_at dksX4_readings_4 21 rfl rfl)
theorem dX4_readings_120 : decode cX4_readings 120 = .ok (.iconst 0, 1) := dk_3 (dk_at dksX4_readings_5 0 rfl rfl)
theorem dX4_readings_121 : decode cX4_readings 121 = .ok (.iastore, 1) := dk_79 (dk_at dksX4_readings_5 1 rfl rfl)
theorem dX4_readings_122 : decode cX4_readings 122 = .ok (.aload_n 0, 1) := dk_42 (dk_at dksX4_readings_5 2 rfl rfl)
theorem dX4_readings_123 : decode cX4_readings 123 = .ok (.getfield 93, 3) := dk_180 0 93 (dk_at dksX4_readings_5 3 rfl rfl)
theorem dX4_readings_126 : decode cX4_readings 126 = .ok (.iload 5, 2) := dk_21 5 (dk_at dksX4_readings_5 6 rfl rfl)
theorem dX4_readings_128 : decode cX4_readings 128 = .ok (.iload 5, 2) := dk_21 5 (dk_at dksX4_readings_5 8 rfl rfl)
theorem dX4_readings_130 : decode cX4_readings 130 = .ok (.iload_n 3, 1) := dk_29 (dk_at dksX4_readings_5 10 rfl rfl)
theorem dX4_readings_131 : decode cX4_readings 131 = .ok (.if_icmp .ne 7, 3) := dk_160 0 7 (dk_at dksX4_readings_5 11 rfl rfl)
theorem dX4_readings_134 : decode cX4_readings 134 = .ok (.iconst 0, 1) := dk_3 (dk_at dksX4_readings_5 14 rfl rfl)
theorem dX4_readings_135 : decode cX4_readings 135 = .ok (.goto 6, 3) := dk_167 0 6 (dk_at dksX4_readings_5 15 rfl rfl)
theorem dX4_readings_138 : decode cX4_readings 138 = .ok (.ldc_w 406, 3) := dk_19 1 150 (dk_at dksX4_readings_5 18 rfl rfl)
theorem dX4_readings_141 : decode cX4_readings 141 = .ok (.iastore, 1) := dk_79 (dk_at dksX4_readings_5 21 rfl rfl)
theorem dX4_readings_142 : decode cX4_readings 142 = .ok (.iconst 0, 1) := dk_3 (dk_at dksX4_readings_5 22 rfl rfl)
theorem dX4_readings_143 : decode cX4_readings 143 = .ok (.istore 6, 2) := dk_54 6 (dk_at dksX4_readings_6 0 rfl rfl)
theorem dX4_readings_145 : decode cX4_readings 145 = .ok (.iload 6, 2) := dk_21 6 (dk_at dksX4_readings_6 2 rfl rfl)
theorem dX4_readings_147 : decode cX4_readings 147 = .ok (.aload_n 0, 1) := dk_42 (dk_at dksX4_readings_6 4 rfl rfl)
theorem dX4_readings_148 : decode cX4_readings 148 = .ok (.getfield 287, 3) := dk_180 1 31 (dk_at dksX4_readings_6 5 rfl rfl)
theorem dX4_readings_151 : decode cX4_readings 151 = .ok (.if_icmp .ge 89, 3) := dk_162 0 89 (dk_at dksX4_readings_6 8 rfl rfl)
theorem dX4_readings_154 : decode cX4_readings 154 = .ok (.iload 5, 2) := dk_21 5 (dk_at dksX4_readings_6 11 rfl rfl)
theorem dX4_readings_156 : decode cX4_readings 156 = .ok (.iload_n 3, 1) := dk_29 (dk_at dksX4_readings_6 13 rfl rfl)
theorem dX4_readings_157 : decode cX4_readings 157 = .ok (.if_icmp .eq 77, 3) := dk_159 0 77 (dk_at dksX4_readings_6 14 rfl rfl)
theorem dX4_readings_160 : decode cX4_readings 160 = .ok (.aload_n 0, 1) := dk_42 (dk_at dksX4_readings_6 17 rfl rfl)
theorem dX4_readings_161 : decode cX4_readings 161 = .ok (.iload 6, 2) := dk_21 6 (dk_at dksX4_readings_6 18 rfl rfl)
theorem dX4_readings_163 : decode cX4_readings 163 = .ok (.iload 5, 2) := dk_21 5 (dk_at dksX4_readings_6 20 rfl rfl)
theorem dX4_readings_165 : decode cX4_readings 165 = .ok (.iload_n 3, 1) := dk_29 (dk_at dksX4_readings_6 22 rfl rfl)
theorem dX4_readings_166 : decode cX4_readings 166 = .ok (.invokevirtual 417, 3) := dk_182 1 161 (dk_at dksX4_readings_7 0 rfl rfl)
theorem dX4_readings_169 : decode cX4_readings 169 = .ok (.ifCond .ne 6, 3) := dk_154 0 6 (dk_at dksX4_readings_7 3 rfl rfl)
theorem dX4_readings_172 : decode cX4_readings 172 = .ok (.goto 62, 3) := dk_167 0 62 (dk_at dksX4_readings_7 6 rfl rfl)
theorem dX4_readings_175 : decode cX4_readings 175 = .ok (.aload_n 0, 1) := dk_42 (dk_at dksX4_readings_7 9 rfl rfl)
theorem dX4_readings_176 : decode cX4_readings 176 = .ok (.getfield 90, 3) := dk_180 0 90 (dk_at dksX4_readings_7 10 rfl rfl)
theorem dX4_readings_179 : decode cX4_readings 179 = .ok (.iload 5, 2) := dk_21 5 (dk_at dksX4_readings_7 13 rfl rfl)
theorem dX4_readings_181 : decode cX4_readings 181 = .ok (.dup2, 1) := dk_92 (dk_at dksX4_readings_7 15 rfl rfl)
theorem dX4_readings_182 : decode cX4_readings 182 = .ok (.iaload, 1) := dk_46 (dk_at dksX4_readings_7 16 rfl rfl)
theorem dX4_readings_183 : decode cX4_readings 183 = .ok (.aload_n 0, 1) := dk_42 (dk_at dksX4_readings_7 17 rfl rfl)
theorem dX4_readings_184 : decode cX4_readings 184 = .ok (.getfield 90, 3) := dk_180 0 90 (dk_at dksX4_readings_7 18 rfl rfl)
theorem dX4_readings_187 : decode cX4_readings 187 = .ok (.iload 5, 2) := dk_21 5 (dk_at dksX4_readings_7 21 rfl rfl)
theorem dX4_readings_189 : decode cX4_readings 189 = .ok (.aload_n 0, 1) := dk_42 (dk_at dksX4_readings_7 23 rfl rfl)
theorem dX4_readings_190 : decode cX4_readings 190 = .ok (.getfield 29, 3) := dk_180 0 29 (dk_at dksX4_readings_8 0 rfl rfl)
theorem dX4_readings_193 : decode cX4_readings 193 = .ok (.iload 6, 2) := dk_21 6 (dk_at dksX4_readings_8 3 rfl rfl)
theorem dX4_readings_195 : decode cX4_readings 195 = .ok (.iaload, 1) := dk_46 (dk_at dksX4_readings_8 5 rfl rfl)
theorem dX4_readings_196 : decode cX4_readings 196 = .ok (.iadd, 1) := dk_96 (dk_at dksX4_readings_8 6 rfl rfl)
theorem dX4_readings_197 : decode cX4_readings 197 = .ok (.iaload, 1) := dk_46 (dk_at dksX4_readings_8 7 rfl rfl)
theorem dX4_readings_198 : decode cX4_readings 198 = .ok (.iadd, 1) := dk_96 (dk_at dksX4_readings_8 8 rfl rfl)
theorem dX4_readings_199 : decode cX4_readings 199 = .ok (.iastore, 1) := dk_79 (dk_at dksX4_readings_8 9 rfl rfl)
theorem dX4_readings_200 : decode cX4_readings 200 = .ok (.aload_n 0, 1) := dk_42 (dk_at dksX4_readings_8 10 rfl rfl)
theorem dX4_readings_201 : decode cX4_readings 201 = .ok (.getfield 93, 3) := dk_180 0 93 (dk_at dksX4_readings_8 11 rfl rfl)
theorem dX4_readings_204 : decode cX4_readings 204 = .ok (.iload 5, 2) := dk_21 5 (dk_at dksX4_readings_8 14 rfl rfl)
theorem dX4_readings_206 : decode cX4_readings 206 = .ok (.aload_n 0, 1) := dk_42 (dk_at dksX4_readings_8 16 rfl rfl)
theorem dX4_readings_207 : decode cX4_readings 207 = .ok (.getfield 93, 3) := dk_180 0 93 (dk_at dksX4_readings_8 17 rfl rfl)
theorem dX4_readings_210 : decode cX4_readings 210 = .ok (.iload 5, 2) := dk_21 5 (dk_at dksX4_readings_8 20 rfl rfl)
theorem dX4_readings_212 : decode cX4_readings 212 = .ok (.iaload, 1) := dk_46 (dk_at dksX4_readings_8 22 rfl rfl)
theorem dX4_readings_213 : decode cX4_readings 213 = .ok (.iconst 1, 1) := dk_4 (dk_at dksX4_readings_8 23 rfl rfl)
theorem dX4_readings_214 : decode cX4_readings 214 = .ok (.aload_n 0, 1) := dk_42 (dk_at dksX4_readings_9 0 rfl rfl)
theorem dX4_readings_215 : decode cX4_readings 215 = .ok (.getfield 93, 3) := dk_180 0 93 (dk_at dksX4_readings_9 1 rfl rfl)
theorem dX4_readings_218 : decode cX4_readings 218 = .ok (.iload 5, 2) := dk_21 5 (dk_at dksX4_readings_9 4 rfl rfl)
theorem dX4_readings_220 : decode cX4_readings 220 = .ok (.aload_n 0, 1) := dk_42 (dk_at dksX4_readings_9 6 rfl rfl)
theorem dX4_readings_221 : decode cX4_readings 221 = .ok (.getfield 29, 3) := dk_180 0 29 (dk_at dksX4_readings_9 7 rfl rfl)
theorem dX4_readings_224 : decode cX4_readings 224 = .ok (.iload 6, 2) := dk_21 6 (dk_at dksX4_readings_9 10 rfl rfl)
theorem dX4_readings_226 : decode cX4_readings 226 = .ok (.iaload, 1) := dk_46 (dk_at dksX4_readings_9 12 rfl rfl)
theorem dX4_readings_227 : decode cX4_readings 227 = .ok (.iadd, 1) := dk_96 (dk_at dksX4_readings_9 13 rfl rfl)
theorem dX4_readings_228 : decode cX4_readings 228 = .ok (.iaload, 1) := dk_46 (dk_at dksX4_readings_9 14 rfl rfl)
theorem dX4_readings_229 : decode cX4_readings 229 = .ok (.iadd, 1) := dk_96 (dk_at dksX4_readings_9 15 rfl rfl)
theorem dX4_readings_230 : decode cX4_readings 230 = .ok (.invokestatic 336, 3) := dk_184 1 80 (dk_at dksX4_readings_9 16 rfl rfl)
theorem dX4_readings_233 : decode cX4_readings 233 = .ok (.iastore, 1) := dk_79 (dk_at dksX4_readings_9 19 rfl rfl)
theorem dX4_readings_234 : decode cX4_readings 234 = .ok (.iinc 6 1, 3) := dk_132 6 1 (dk_at dksX4_readings_9 20 rfl rfl)
theorem dX4_readings_237 : decode cX4_readings 237 = .ok (.goto (-92), 3) := dk_167 255 164 (dk_at dksX4_readings_10 0 rfl rfl)
theorem dX4_readings_240 : decode cX4_readings 240 = .ok (.iinc 5 (-1), 3) := dk_132 5 255 (dk_at dksX4_readings_10 3 rfl rfl)
theorem dX4_readings_243 : decode cX4_readings 243 = .ok (.goto (-144), 3) := dk_167 255 112 (dk_at dksX4_readings_10 6 rfl rfl)
theorem dX4_readings_246 : decode cX4_readings 246 = .ok (.iload_n 2, 1) := dk_28 (dk_at dksX4_readings_10 9 rfl rfl)
theorem dX4_readings_247 : decode cX4_readings 247 = .ok (.ifCond .ne 12, 3) := dk_154 0 12 (dk_at dksX4_readings_10 10 rfl rfl)
theorem dX4_readings_250 : decode cX4_readings 250 = .ok (.aload_n 0, 1) := dk_42 (dk_at dksX4_readings_10 13 rfl rfl)
theorem dX4_readings_251 : decode cX4_readings 251 = .ok (.getfield 90, 3) := dk_180 0 90 (dk_at dksX4_readings_10 14 rfl rfl)
theorem dX4_readings_254 : decode cX4_readings 254 = .ok (.iconst 0, 1) := dk_3 (dk_at dksX4_readings_10 17 rfl rfl)
theorem dX4_readings_255 : decode cX4_readings 255 = .ok (.iaload, 1) := dk_46 (dk_at dksX4_readings_10 18 rfl rfl)
theorem dX4_readings_256 : decode cX4_readings 256 = .ok (.goto 25, 3) := dk_167 0 25 (dk_at dksX4_readings_10 19 rfl rfl)
theorem dX4_readings_259 : decode cX4_readings 259 = .ok (.aload_n 0, 1) := dk_42 (dk_at dksX4_readings_10 22 rfl rfl)
theorem dX4_readings_260 : decode cX4_readings 260 = .ok (.getfield 93, 3) := dk_180 0 93 (dk_at dksX4_readings_11 0 rfl rfl)
theorem dX4_readings_263 : decode cX4_readings 263 = .ok (.iconst 0, 1) := dk_3 (dk_at dksX4_readings_11 3 rfl rfl)
theorem dX4_readings_264 : decode cX4_readings 264 = .ok (.iaload, 1) := dk_46 (dk_at dksX4_readings_11 4 rfl rfl)
theorem dX4_readings_265 : decode cX4_readings 265 = .ok (.ldc_w 406, 3) := dk_19 1 150 (dk_at dksX4_readings_11 5 rfl rfl)
theorem dX4_readings_268 : decode cX4_readings 268 = .ok (.if_icmp .lt 7, 3) := dk_161 0 7 (dk_at dksX4_readings_11 8 rfl rfl)
theorem dX4_readings_271 : decode cX4_readings 271 = .ok (.iconst (-1), 1) := dk_2 (dk_at dksX4_readings_11 11 rfl rfl)
theorem dX4_readings_272 : decode cX4_readings 272 = .ok (.goto 9, 3) := dk_167 0 9 (dk_at dksX4_readings_11 12 rfl rfl)
theorem dX4_readings_275 : decode cX4_readings 275 = .ok (.aload_n 0, 1) := dk_42 (dk_at dksX4_readings_11 15 rfl rfl)
theorem dX4_readings_276 : decode cX4_readings 276 = .ok (.getfield 93, 3) := dk_180 0 93 (dk_at dksX4_readings_11 16 rfl rfl)
theorem dX4_readings_279 : decode cX4_readings 279 = .ok (.iconst 0, 1) := dk_3 (dk_at dksX4_readings_11 19 rfl rfl)
theorem dX4_readings_280 : decode cX4_readings 280 = .ok (.iaload, 1) := dk_46 (dk_at dksX4_readings_11 20 rfl rfl)
theorem dX4_readings_281 : decode cX4_readings 281 = .ok (.ireturn, 1) := dk_172 (dk_at dksX4_readings_11 21 rfl rfl)
abbrev cX4_see : ByteArray := prog_12_method_98_code
def yX4_see : MethodName := ⟨RX4, "see", "(III)I"⟩
def dkwX4_see_4 : List UInt8 := [180, 1, 41, 4, 96, 181, 1, 41, 42, 180, 1, 41, 172]
abbrev dktX4_see_4 : List UInt8 := dkwX4_see_4 ++ []
def dkwX4_see_3 : List UInt8 := [180, 1, 41, 104, 4, 96, 28, 79, 42, 180, 0, 96, 6, 42, 180, 1, 41, 104, 5, 96, 29, 79, 42, 89]
abbrev dktX4_see_3 : List UInt8 := dkwX4_see_3 ++ dktX4_see_4
def dkwX4_see_2 : List UInt8 := [182, 1, 128, 172, 42, 180, 0, 96, 6, 42, 180, 1, 41, 104, 27, 79, 42, 180, 0, 96, 6, 42]
abbrev dktX4_see_2 : List UInt8 := dkwX4_see_2 ++ dktX4_see_3
def dkwX4_see_1 : List UInt8 := [28, 3, 16, 20, 184, 1, 106, 153, 0, 13, 29, 3, 16, 99, 184, 1, 106, 154, 0, 9, 42, 5]
abbrev dktX4_see_1 : List UInt8 := dkwX4_see_1 ++ dktX4_see_2
def dkwX4_see_0 : List UInt8 := [42, 3, 181, 0, 117, 42, 27, 182, 1, 119, 154, 0, 5, 3, 172, 42, 180, 1, 41, 16, 8, 159, 0, 23]
abbrev dktX4_see_0 : List UInt8 := dkwX4_see_0 ++ dktX4_see_1
theorem dksX4_see_0 : cX4_see.data.toList.drop 0 = dktX4_see_0 := by decide +kernel
theorem dksX4_see_1 : cX4_see.data.toList.drop 24 = dktX4_see_1 := dk_seg dksX4_see_0 24 rfl rfl
theorem dksX4_see_2 : cX4_see.data.toList.drop 46 = dktX4_see_2 := dk_seg dksX4_see_1 22 rfl rfl
theorem dksX4_see_3 : cX4_see.data.toList.drop 68 = dktX4_see_3 := dk_seg dksX4_see_2 22 rfl rfl
theorem dksX4_see_4 : cX4_see.data.toList.drop 92 = dktX4_see_4 := dk_seg dksX4_see_3 24 rfl rfl
theorem dX4_see_0 : decode cX4_see 0 = .ok (.aload_n 0, 1) := dk_42 (dk_at dksX4_see_0 0 rfl rfl)
theorem dX4_see_1 : decode cX4_see 1 = .ok (.iconst 0, 1) := dk_3 (dk_at dksX4_see_0 1 rfl rfl)
theorem dX4_see_2 : decode cX4_see 2 = .ok (.putfield 117, 3) := dk_181 0 117 (dk_at dksX4_see_0 2 rfl rfl)
theorem dX4_see_5 : decode cX4_see 5 = .ok (.aload_n 0, 1) := dk_42 (dk_at dksX4_see_0 5 rfl rfl)
theorem dX4_see_6 : decode cX4_see 6 = .ok (.iload_n 1, 1) := dk_27 (dk_at dksX4_see_0 6 rfl rfl)
theorem dX4_see_7 : decode cX4_see 7 = .ok (.invokevirtual 375, 3) := dk_182 1 119 (dk_at dksX4_see_0 7 rfl rfl)
theorem dX4_see_10 : decode cX4_see 10 = .ok (.ifCond .ne 5, 3) := dk_154 0 5 (dk_at dksX4_see_0 10 rfl rfl)
theorem dX4_see_13 : decode cX4_see 13 = .ok (.iconst 0, 1) := dk_3 (dk_at dksX4_see_0 13 rfl rfl)
theorem dX4_see_14 : decode cX4_see 14 = .ok (.ireturn, 1) := dk_172 (dk_at dksX4_see_0 14 rfl rfl)
theorem dX4_see_15 : decode cX4_see 15 = .ok (.aload_n 0, 1) := dk_42 (dk_at dksX4_see_0 15 rfl rfl)
theorem dX4_see_16 : decode cX4_see 16 = .ok (.getfield 297, 3) := dk_180 1 41 (dk_at dksX4_see_0 16 rfl rfl)
theorem dX4_see_19 : decode cX4_see 19 = .ok (.bipush 8, 2) := dk_16 8 (dk_at dksX4_see_0 19 rfl rfl)
theorem dX4_see_21 : decode cX4_see 21 = .ok (.if_icmp .eq 23, 3) := dk_159 0 23 (dk_at dksX4_see_0 21 rfl rfl)
theorem dX4_see_24 : decode cX4_see 24 = .ok (.iload_n 2, 1) := dk_28 (dk_at dksX4_see_1 0 rfl rfl)
theorem dX4_see_25 : decode cX4_see 25 = .ok (.iconst 0, 1) := dk_3 (dk_at dksX4_see_1 1 rfl rfl)
theorem dX4_see_26 : decode cX4_see 26 = .ok (.bipush 20, 2) := dk_16 20 (dk_at dksX4_see_1 2 rfl rfl)
theorem dX4_see_28 : decode cX4_see 28 = .ok (.invokestatic 362, 3) := dk_184 1 106 (dk_at dksX4_see_1 4 rfl rfl)
theorem dX4_see_31 : decode cX4_see 31 = .ok (.ifCond .eq 13, 3) := dk_153 0 13 (dk_at dksX4_see_1 7 rfl rfl)
theorem dX4_see_34 : decode cX4_see 34 = .ok (.iload_n 3, 1) := dk_29 (dk_at dksX4_see_1 10 rfl rfl)
theorem dX4_see_35 : decode cX4_see 35 = .ok (.iconst 0, 1) := dk_3 (dk_at dksX4_see_1 11 rfl rfl)
theorem dX4_see_36 : decode cX4_see 36 = .ok (.bipush 99, 2) := dk_16 99 (dk_at dksX4_see_1 12 rfl rfl)
theorem dX4_see_38 : decode cX4_see 38 = .ok (.invokestatic 362, 3) := dk_184 1 106 (dk_at dksX4_see_1 14 rfl rfl)
theorem dX4_see_41 : decode cX4_see 41 = .ok (.ifCond .ne 9, 3) := dk_154 0 9 (dk_at dksX4_see_1 17 rfl rfl)
theorem dX4_see_44 : decode cX4_see 44 = .ok (.aload_n 0, 1) := dk_42 (dk_at dksX4_see_1 20 rfl rfl)
theorem dX4_see_45 : decode cX4_see 45 = .ok (.iconst 2, 1) := dk_5 (dk_at dksX4_see_1 21 rfl rfl)
theorem dX4_see_46 : decode cX4_see 46 = .ok (.invokevirtual 384, 3) := dk_182 1 128 (dk_at dksX4_see_2 0 rfl rfl)
theorem dX4_see_49 : decode cX4_see 49 = .ok (.ireturn, 1) := dk_172 (dk_at dksX4_see_2 3 rfl rfl)
theorem dX4_see_50 : decode cX4_see 50 = .ok (.aload_n 0, 1) := dk_42 (dk_at dksX4_see_2 4 rfl rfl)
theorem dX4_see_51 : decode cX4_see 51 = .ok (.getfield 96, 3) := dk_180 0 96 (dk_at dksX4_see_2 5 rfl rfl)
theorem dX4_see_54 : decode cX4_see 54 = .ok (.iconst 3, 1) := dk_6 (dk_at dksX4_see_2 8 rfl rfl)
theorem dX4_see_55 : decode cX4_see 55 = .ok (.aload_n 0, 1) := dk_42 (dk_at dksX4_see_2 9 rfl rfl)
theorem dX4_see_56 : decode cX4_see 56 = .ok (.getfield 297, 3) := dk_180 1 41 (dk_at dksX4_see_2 10 rfl rfl)
theorem dX4_see_59 : decode cX4_see 59 = .ok (.imul, 1) := dk_104 (dk_at dksX4_see_2 13 rfl rfl)
theorem dX4_see_60 : decode cX4_see 60 = .ok (.iload_n 1, 1) := dk_27 (dk_at dksX4_see_2 14 rfl rfl)
theorem dX4_see_61 : decode cX4_see 61 = .ok (.iastore, 1) := dk_79 (dk_at dksX4_see_2 15 rfl rfl)
theorem dX4_see_62 : decode cX4_see 62 = .ok (.aload_n 0, 1) := dk_42 (dk_at dksX4_see_2 16 rfl rfl)
theorem dX4_see_63 : decode cX4_see 63 = .ok (.getfield 96, 3) := dk_180 0 96 (dk_at dksX4_see_2 17 rfl rfl)
theorem dX4_see_66 : decode cX4_see 66 = .ok (.iconst 3, 1) := dk_6 (dk_at dksX4_see_2 20 rfl rfl)
theorem dX4_see_67 : decode cX4_see 67 = .ok (.aload_n 0, 1) := dk_42 (dk_at dksX4_see_2 21 rfl rfl)
theorem dX4_see_68 : decode cX4_see 68 = .ok (.getfield 297, 3) := dk_180 1 41 (dk_at dksX4_see_3 0 rfl rfl)
theorem dX4_see_71 : decode cX4_see 71 = .ok (.imul, 1) := dk_104 (dk_at dksX4_see_3 3 rfl rfl)
theorem dX4_see_72 : decode cX4_see 72 = .ok (.iconst 1, 1) := dk_4 (dk_at dksX4_see_3 4 rfl rfl)
theorem dX4_see_73 : decode cX4_see 73 = .ok (.iadd, 1) := dk_96 (dk_at dksX4_see_3 5 rfl rfl)
theorem dX4_see_74 : decode cX4_see 74 = .ok (.iload_n 2, 1) := dk_28 (dk_at dksX4_see_3 6 rfl rfl)
theorem dX4_see_75 : decode cX4_see 75 = .ok (.iastore, 1) := dk_79 (dk_at dksX4_see_3 7 rfl rfl)
theorem dX4_see_76 : decode cX4_see 76 = .ok (.aload_n 0, 1) := dk_42 (dk_at dksX4_see_3 8 rfl rfl)
theorem dX4_see_77 : decode cX4_see 77 = .ok (.getfield 96, 3) := dk_180 0 96 (dk_at dksX4_see_3 9 rfl rfl)
theorem dX4_see_80 : decode cX4_see 80 = .ok (.iconst 3, 1) := dk_6 (dk_at dksX4_see_3 12 rfl rfl)
theorem dX4_see_81 : decode cX4_see 81 = .ok (.aload_n 0, 1) := dk_42 (dk_at dksX4_see_3 13 rfl rfl)
theorem dX4_see_82 : decode cX4_see 82 = .ok (.getfield 297, 3) := dk_180 1 41 (dk_at dksX4_see_3 14 rfl rfl)
theorem dX4_see_85 : decode cX4_see 85 = .ok (.imul, 1) := dk_104 (dk_at dksX4_see_3 17 rfl rfl)
theorem dX4_see_86 : decode cX4_see 86 = .ok (.iconst 2, 1) := dk_5 (dk_at dksX4_see_3 18 rfl rfl)
theorem dX4_see_87 : decode cX4_see 87 = .ok (.iadd, 1) := dk_96 (dk_at dksX4_see_3 19 rfl rfl)
theorem dX4_see_88 : decode cX4_see 88 = .ok (.iload_n 3, 1) := dk_29 (dk_at dksX4_see_3 20 rfl rfl)
theorem dX4_see_89 : decode cX4_see 89 = .ok (.iastore, 1) := dk_79 (dk_at dksX4_see_3 21 rfl rfl)
theorem dX4_see_90 : decode cX4_see 90 = .ok (.aload_n 0, 1) := dk_42 (dk_at dksX4_see_3 22 rfl rfl)
theorem dX4_see_91 : decode cX4_see 91 = .ok (.dup, 1) := dk_89 (dk_at dksX4_see_3 23 rfl rfl)
theorem dX4_see_92 : decode cX4_see 92 = .ok (.getfield 297, 3) := dk_180 1 41 (dk_at dksX4_see_4 0 rfl rfl)
theorem dX4_see_95 : decode cX4_see 95 = .ok (.iconst 1, 1) := dk_4 (dk_at dksX4_see_4 3 rfl rfl)
theorem dX4_see_96 : decode cX4_see 96 = .ok (.iadd, 1) := dk_96 (dk_at dksX4_see_4 4 rfl rfl)
theorem dX4_see_97 : decode cX4_see 97 = .ok (.putfield 297, 3) := dk_181 1 41 (dk_at dksX4_see_4 5 rfl rfl)
theorem dX4_see_100 : decode cX4_see 100 = .ok (.aload_n 0, 1) := dk_42 (dk_at dksX4_see_4 8 rfl rfl)
theorem dX4_see_101 : decode cX4_see 101 = .ok (.getfield 297, 3) := dk_180 1 41 (dk_at dksX4_see_4 9 rfl rfl)
theorem dX4_see_104 : decode cX4_see 104 = .ok (.ireturn, 1) := dk_172 (dk_at dksX4_see_4 12 rfl rfl)
abbrev cX4_forget : ByteArray := prog_12_method_99_code
def yX4_forget : MethodName := ⟨RX4, "forget", "()V"⟩
def dkwX4_forget_0 : List UInt8 := [42, 3, 181, 0, 117, 42, 3, 181, 1, 41, 177]
abbrev dktX4_forget_0 : List UInt8 := dkwX4_forget_0 ++ []
theorem dksX4_forget_0 : cX4_forget.data.toList.drop 0 = dktX4_forget_0 := by decide +kernel
theorem dX4_forget_0 : decode cX4_forget 0 = .ok (.aload_n 0, 1) := dk_42 (dk_at dksX4_forget_0 0 rfl rfl)
theorem dX4_forget_1 : decode cX4_forget 1 = .ok (.iconst 0, 1) := dk_3 (dk_at dksX4_forget_0 1 rfl rfl)
theorem dX4_forget_2 : decode cX4_forget 2 = .ok (.putfield 117, 3) := dk_181 0 117 (dk_at dksX4_forget_0 2 rfl rfl)
theorem dX4_forget_5 : decode cX4_forget 5 = .ok (.aload_n 0, 1) := dk_42 (dk_at dksX4_forget_0 5 rfl rfl)
theorem dX4_forget_6 : decode cX4_forget 6 = .ok (.iconst 0, 1) := dk_3 (dk_at dksX4_forget_0 6 rfl rfl)
theorem dX4_forget_7 : decode cX4_forget 7 = .ok (.putfield 297, 3) := dk_181 1 41 (dk_at dksX4_forget_0 7 rfl rfl)
theorem dX4_forget_10 : decode cX4_forget 10 = .ok (.return_, 1) := dk_177 (dk_at dksX4_forget_0 10 rfl rfl)
abbrev cX4_isSeen : ByteArray := prog_12_method_100_code
def yX4_isSeen : MethodName := ⟨RX4, "isSeen", "()Z"⟩
def dkwX4_isSeen_4 : List UInt8 := [28, 96, 46, 79, 132, 2, 1, 167, 255, 230, 42, 16, 49, 182, 1, 103, 132, 1, 1, 167, 255, 144, 4, 172]
abbrev dktX4_isSeen_4 : List UInt8 := dkwX4_isSeen_4 ++ []
def dkwX4_isSeen_3 : List UInt8 := [160, 0, 34, 3, 61, 28, 42, 180, 0, 7, 162, 0, 24, 42, 180, 0, 99, 28, 42, 180, 0, 66, 16, 62]
abbrev dktX4_isSeen_3 : List UInt8 := dkwX4_isSeen_3 ++ dktX4_isSeen_4
def dkwX4_isSeen_2 : List UInt8 := [42, 180, 0, 96, 6, 28, 104, 5, 96, 46, 159, 0, 5, 3, 172, 132, 2, 1, 167, 255, 200, 27, 8]
abbrev dktX4_isSeen_2 : List UInt8 := dkwX4_isSeen_2 ++ dktX4_isSeen_3
def dkwX4_isSeen_1 : List UInt8 := [104, 4, 96, 46, 27, 160, 0, 34, 42, 180, 0, 66, 16, 62, 42, 180, 0, 96, 6, 28, 104, 46, 96, 46]
abbrev dktX4_isSeen_1 : List UInt8 := dkwX4_isSeen_1 ++ dktX4_isSeen_2
def dkwX4_isSeen_0 : List UInt8 := [3, 60, 27, 16, 20, 163, 0, 112, 3, 61, 28, 42, 180, 1, 41, 162, 0, 54, 42, 180, 0, 96, 6, 28]
abbrev dktX4_isSeen_0 : List UInt8 := dkwX4_isSeen_0 ++ dktX4_isSeen_1
theorem dksX4_isSeen_0 : cX4_isSeen.data.toList.drop 0 = dktX4_isSeen_0 := by decide +kernel
theorem dksX4_isSeen_1 : cX4_isSeen.data.toList.drop 24 = dktX4_isSeen_1 := dk_seg dksX4_isSeen_0 24 rfl rfl
theorem dksX4_isSeen_2 : cX4_isSeen.data.toList.drop 48 = dktX4_isSeen_2 := dk_seg dksX4_isSeen_1 24 rfl rfl
theorem dksX4_isSeen_3 : cX4_isSeen.data.toList.drop 71 = dktX4_isSeen_3 := dk_seg dksX4_isSeen_2 23 rfl rfl
theorem dksX4_isSeen_4 : cX4_isSeen.data.toList.drop 95 = dktX4_isSeen_4 := dk_seg dksX4_isSeen_3 24 rfl rfl
theorem dX4_isSeen_0 : decode cX4_isSeen 0 = .ok (.iconst 0, 1) := dk_3 (dk_at dksX4_isSeen_0 0 rfl rfl)
theorem dX4_isSeen_1 : decode cX4_isSeen 1 = .ok (.istore_n 1, 1) := dk_60 (dk_at dksX4_isSeen_0 1 rfl rfl)
theorem dX4_isSeen_2 : decode cX4_isSeen 2 = .ok (.iload_n 1, 1) := dk_27 (dk_at dksX4_isSeen_0 2 rfl rfl)
theorem dX4_isSeen_3 : decode cX4_isSeen 3 = .ok (.bipush 20, 2) := dk_16 20 (dk_at dksX4_isSeen_0 3 rfl rfl)
theorem dX4_isSeen_5 : decode cX4_isSeen 5 = .ok (.if_icmp .gt 112, 3) := dk_163 0 112 (dk_at dksX4_isSeen_0 5 rfl rfl)
theorem dX4_isSeen_8 : decode cX4_isSeen 8 = .ok (.iconst 0, 1) := dk_3 (dk_at dksX4_isSeen_0 8 rfl rfl)
theorem dX4_isSeen_9 : decode cX4_isSeen 9 = .ok (.istore_n 2, 1) := dk_61 (dk_at dksX4_isSeen_0 9 rfl rfl)
theorem dX4_isSeen_10 : decode cX4_isSeen 10 = .ok (.iload_n 2, 1) := dk_28 (dk_at dksX4_isSeen_0 10 rfl rfl)
theorem dX4_isSeen_11 : decode cX4_isSeen 11 = .ok (.aload_n 0, 1) := dk_42 (dk_at dksX4_isSeen_0 11 rfl rfl)
theorem dX4_isSeen_12 : decode cX4_isSeen 12 = .ok (.getfield 297, 3) := dk_180 1 41 (dk_at dksX4_isSeen_0 12 rfl rfl)
theorem dX4_isSeen_15 : decode cX4_isSeen 15 = .ok (.if_icmp .ge 54, 3) := dk_162 0 54 (dk_at dksX4_isSeen_0 15 rfl rfl)
theorem dX4_isSeen_18 : decode cX4_isSeen 18 = .ok (.aload_n 0, 1) := dk_42 (dk_at dksX4_isSeen_0 18 rfl rfl)
theorem dX4_isSeen_19 : decode cX4_isSeen 19 = .ok (.getfield 96, 3) := dk_180 0 96 (dk_at dksX4_isSeen_0 19 rfl rfl)
theorem dX4_isSeen_22 : decode cX4_isSeen 22 = .ok (.iconst 3, 1) := dk_6 (dk_at dksX4_isSeen_0 22 rfl rfl)
theorem dX4_isSeen_23 : decode cX4_isSeen 23 = .ok (.iload_n 2, 1) := dk_28 (dk_at dksX4_isSeen_0 23 rfl rfl)
theorem dX4_isSeen_24 : decode cX4_isSeen 24 = .ok (.imul, 1) := dk_104 (dk_at dksX4_isSeen_1 0 rfl rfl)
theorem dX4_isSeen_25 : decode cX4_isSeen 25 = .ok (.iconst 1, 1) := dk_4 (dk_at dksX4_isSeen_1 1 rfl rfl)
theorem dX4_isSeen_26 : decode cX4_isSeen 26 = .ok (.iadd, 1) := dk_96 (dk_at dksX4_isSeen_1 2 rfl rfl)
theorem dX4_isSeen_27 : decode cX4_isSeen 27 = .ok (.iaload, 1) := dk_46 (dk_at dksX4_isSeen_1 3 rfl rfl)
theorem dX4_isSeen_28 : decode cX4_isSeen 28 = .ok (.iload_n 1, 1) := dk_27 (dk_at dksX4_isSeen_1 4 rfl rfl)
theorem dX4_isSeen_29 : decode cX4_isSeen 29 = .ok (.if_icmp .ne 34, 3) := dk_160 0 34 (dk_at dksX4_isSeen_1 5 rfl rfl)
theorem dX4_isSeen_32 : decode cX4_isSeen 32 = .ok (.aload_n 0, 1) := dk_42 (dk_at dksX4_isSeen_1 8 rfl rfl)
theorem dX4_isSeen_33 : decode cX4_isSeen 33 = .ok (.getfield 66, 3) := dk_180 0 66 (dk_at dksX4_isSeen_1 9 rfl rfl)
theorem dX4_isSeen_36 : decode cX4_isSeen 36 = .ok (.bipush 62, 2) := dk_16 62 (dk_at dksX4_isSeen_1 12 rfl rfl)
theorem dX4_isSeen_38 : decode cX4_isSeen 38 = .ok (.aload_n 0, 1) := dk_42 (dk_at dksX4_isSeen_1 14 rfl rfl)
theorem dX4_isSeen_39 : decode cX4_isSeen 39 = .ok (.getfield 96, 3) := dk_180 0 96 (dk_at dksX4_isSeen_1 15 rfl rfl)
theorem dX4_isSeen_42 : decode cX4_isSeen 42 = .ok (.iconst 3, 1) := dk_6 (dk_at dksX4_isSeen_1 18 rfl rfl)
theorem dX4_isSeen_43 : decode cX4_isSeen 43 = .ok (.iload_n 2, 1) := dk_28 (dk_at dksX4_isSeen_1 19 rfl rfl)
theorem dX4_isSeen_44 : decode cX4_isSeen 44 = .ok (.imul, 1) := dk_104 (dk_at dksX4_isSeen_1 20 rfl rfl)
theorem dX4_isSeen_45 : decode cX4_isSeen 45 = .ok (.iaload, 1) := dk_46 (dk_at dksX4_isSeen_1 21 rfl rfl)
theorem dX4_isSeen_46 : decode cX4_isSeen 46 = .ok (.iadd, 1) := dk_96 (dk_at dksX4_isSeen_1 22 rfl rfl)
theorem dX4_isSeen_47 : decode cX4_isSeen 47 = .ok (.iaload, 1) := dk_46 (dk_at dksX4_isSeen_1 23 rfl rfl)
theorem dX4_isSeen_48 : decode cX4_isSeen 48 = .ok (.aload_n 0, 1) := dk_42 (dk_at dksX4_isSeen_2 0 rfl rfl)
theorem dX4_isSeen_49 : decode cX4_isSeen 49 = .ok (.getfield 96, 3) := dk_180 0 96 (dk_at dksX4_isSeen_2 1 rfl rfl)
theorem dX4_isSeen_52 : decode cX4_isSeen 52 = .ok (.iconst 3, 1) := dk_6 (dk_at dksX4_isSeen_2 4 rfl rfl)
theorem dX4_isSeen_53 : decode cX4_isSeen 53 = .ok (.iload_n 2, 1) := dk_28 (dk_at dksX4_isSeen_2 5 rfl rfl)
theorem dX4_isSeen_54 : decode cX4_isSeen 54 = .ok (.imul, 1) := dk_104 (dk_at dksX4_isSeen_2 6 rfl rfl)
theorem dX4_isSeen_55 : decode cX4_isSeen 55 = .ok (.iconst 2, 1) := dk_5 (dk_at dksX4_isSeen_2 7 rfl rfl)
theorem dX4_isSeen_56 : decode cX4_isSeen 56 = .ok (.iadd, 1) := dk_96 (dk_at dksX4_isSeen_2 8 rfl rfl)
theorem dX4_isSeen_57 : decode cX4_isSeen 57 = .ok (.iaload, 1) := dk_46 (dk_at dksX4_isSeen_2 9 rfl rfl)
theorem dX4_isSeen_58 : decode cX4_isSeen 58 = .ok (.if_icmp .eq 5, 3) := dk_159 0 5 (dk_at dksX4_isSeen_2 10 rfl rfl)
theorem dX4_isSeen_61 : decode cX4_isSeen 61 = .ok (.iconst 0, 1) := dk_3 (dk_at dksX4_isSeen_2 13 rfl rfl)
theorem dX4_isSeen_62 : decode cX4_isSeen 62 = .ok (.ireturn, 1) := dk_172 (dk_at dksX4_isSeen_2 14 rfl rfl)
theorem dX4_isSeen_63 : decode cX4_isSeen 63 = .ok (.iinc 2 1, 3) := dk_132 2 1 (dk_at dksX4_isSeen_2 15 rfl rfl)
theorem dX4_isSeen_66 : decode cX4_isSeen 66 = .ok (.goto (-56), 3) := dk_167 255 200 (dk_at dksX4_isSeen_2 18 rfl rfl)
theorem dX4_isSeen_69 : decode cX4_isSeen 69 = .ok (.iload_n 1, 1) := dk_27 (dk_at dksX4_isSeen_2 21 rfl rfl)
theorem dX4_isSeen_70 : decode cX4_isSeen 70 = .ok (.iconst 5, 1) := dk_8 (dk_at dksX4_isSeen_2 22 rfl rfl)
theorem dX4_isSeen_71 : decode cX4_isSeen 71 = .ok (.if_icmp .ne 34, 3) := dk_160 0 34 (dk_at dksX4_isSeen_3 0 rfl rfl)
theorem dX4_isSeen_74 : decode cX4_isSeen 74 = .ok (.iconst 0, 1) := dk_3 (dk_at dksX4_isSeen_3 3 rfl rfl)
theorem dX4_isSeen_75 : decode cX4_isSeen 75 = .ok (.istore_n 2, 1) := dk_61 (dk_at dksX4_isSeen_3 4 rfl rfl)
theorem dX4_isSeen_76 : decode cX4_isSeen 76 = .ok (.iload_n 2, 1) := dk_28 (dk_at dksX4_isSeen_3 5 rfl rfl)
theorem dX4_isSeen_77 : decode cX4_isSeen 77 = .ok (.aload_n 0, 1) := dk_42 (dk_at dksX4_isSeen_3 6 rfl rfl)
theorem dX4_isSeen_78 : decode cX4_isSeen 78 = .ok (.getfield 7, 3) := dk_180 0 7 (dk_at dksX4_isSeen_3 7 rfl rfl)
theorem dX4_isSeen_81 : decode cX4_isSeen 81 = .ok (.if_icmp .ge 24, 3) := dk_162 0 24 (dk_at dksX4_isSeen_3 10 rfl rfl)
theorem dX4_isSeen_84 : decode cX4_isSeen 84 = .ok (.aload_n 0, 1) := dk_42 (dk_at dksX4_isSeen_3 13 rfl rfl)
theorem dX4_isSeen_85 : decode cX4_isSeen 85 = .ok (.getfield 99, 3) := dk_180 0 99 (dk_at dksX4_isSeen_3 14 rfl rfl)
theorem dX4_isSeen_88 : decode cX4_isSeen 88 = .ok (.iload_n 2, 1) := dk_28 (dk_at dksX4_isSeen_3 17 rfl rfl)
theorem dX4_isSeen_89 : decode cX4_isSeen 89 = .ok (.aload_n 0, 1) := dk_42 (dk_at dksX4_isSeen_3 18 rfl rfl)
theorem dX4_isSeen_90 : decode cX4_isSeen 90 = .ok (.getfield 66, 3) := dk_180 0 66 (dk_at dksX4_isSeen_3 19 rfl rfl)
theorem dX4_isSeen_93 : decode cX4_isSeen 93 = .ok (.bipush 62, 2) := dk_16 62 (dk_at dksX4_isSeen_3 22 rfl rfl)
theorem dX4_isSeen_95 : decode cX4_isSeen 95 = .ok (.iload_n 2, 1) := dk_28 (dk_at dksX4_isSeen_4 0 rfl rfl)
theorem dX4_isSeen_96 : decode cX4_isSeen 96 = .ok (.iadd, 1) := dk_96 (dk_at dksX4_isSeen_4 1 rfl rfl)
theorem dX4_isSeen_97 : decode cX4_isSeen 97 = .ok (.iaload, 1) := dk_46 (dk_at dksX4_isSeen_4 2 rfl rfl)
theorem dX4_isSeen_98 : decode cX4_isSeen 98 = .ok (.iastore, 1) := dk_79 (dk_at dksX4_isSeen_4 3 rfl rfl)
theorem dX4_isSeen_99 : decode cX4_isSeen 99 = .ok (.iinc 2 1, 3) := dk_132 2 1 (dk_at dksX4_isSeen_4 4 rfl rfl)
theorem dX4_isSeen_102 : decode cX4_isSeen 102 = .ok (.goto (-26), 3) := dk_167 255 230 (dk_at dksX4_isSeen_4 7 rfl rfl)
theorem dX4_isSeen_105 : decode cX4_isSeen 105 = .ok (.aload_n 0, 1) := dk_42 (dk_at dksX4_isSeen_4 10 rfl rfl)
theorem dX4_isSeen_106 : decode cX4_isSeen 106 = .ok (.bipush 49, 2) := dk_16 49 (dk_at dksX4_isSeen_4 11 rfl rfl)
theorem dX4_isSeen_108 : decode cX4_isSeen 108 = .ok (.invokevirtual 359, 3) := dk_182 1 103 (dk_at dksX4_isSeen_4 13 rfl rfl)
theorem dX4_isSeen_111 : decode cX4_isSeen 111 = .ok (.iinc 1 1, 3) := dk_132 1 1 (dk_at dksX4_isSeen_4 16 rfl rfl)
theorem dX4_isSeen_114 : decode cX4_isSeen 114 = .ok (.goto (-112), 3) := dk_167 255 144 (dk_at dksX4_isSeen_4 19 rfl rfl)
theorem dX4_isSeen_117 : decode cX4_isSeen 117 = .ok (.iconst 1, 1) := dk_4 (dk_at dksX4_isSeen_4 22 rfl rfl)
theorem dX4_isSeen_118 : decode cX4_isSeen 118 = .ok (.ireturn, 1) := dk_172 (dk_at dksX4_isSeen_4 23 rfl rfl)
abbrev cX4_isGuess : ByteArray := prog_12_method_101_code
def yX4_isGuess : MethodName := ⟨RX4, "isGuess", "(I)Z"⟩
def dkwX4_isGuess_1 : List UInt8 := [27, 16, 50, 112, 4, 96, 182, 1, 93, 42, 182, 1, 164, 172]
abbrev dktX4_isGuess_1 : List UInt8 := dkwX4_isGuess_1 ++ []
def dkwX4_isGuess_0 : List UInt8 := [27, 16, 50, 108, 61, 42, 3, 28, 182, 1, 70, 153, 0, 5, 3, 172, 42, 182, 1, 134, 42, 16, 49, 28]
abbrev dktX4_isGuess_0 : List UInt8 := dkwX4_isGuess_0 ++ dktX4_isGuess_1
theorem dksX4_isGuess_0 : cX4_isGuess.data.toList.drop 0 = dktX4_isGuess_0 := by decide +kernel
theorem dksX4_isGuess_1 : cX4_isGuess.data.toList.drop 24 = dktX4_isGuess_1 := dk_seg dksX4_isGuess_0 24 rfl rfl
theorem dX4_isGuess_0 : decode cX4_isGuess 0 = .ok (.iload_n 1, 1) := dk_27 (dk_at dksX4_isGuess_0 0 rfl rfl)
theorem dX4_isGuess_1 : decode cX4_isGuess 1 = .ok (.bipush 50, 2) := dk_16 50 (dk_at dksX4_isGuess_0 1 rfl rfl)
theorem dX4_isGuess_3 : decode cX4_isGuess 3 = .ok (.idiv, 1) := dk_108 (dk_at dksX4_isGuess_0 3 rfl rfl)
theorem dX4_isGuess_4 : decode cX4_isGuess 4 = .ok (.istore_n 2, 1) := dk_61 (dk_at dksX4_isGuess_0 4 rfl rfl)
theorem dX4_isGuess_5 : decode cX4_isGuess 5 = .ok (.aload_n 0, 1) := dk_42 (dk_at dksX4_isGuess_0 5 rfl rfl)
theorem dX4_isGuess_6 : decode cX4_isGuess 6 = .ok (.iconst 0, 1) := dk_3 (dk_at dksX4_isGuess_0 6 rfl rfl)
theorem dX4_isGuess_7 : decode cX4_isGuess 7 = .ok (.iload_n 2, 1) := dk_28 (dk_at dksX4_isGuess_0 7 rfl rfl)
theorem dX4_isGuess_8 : decode cX4_isGuess 8 = .ok (.invokevirtual 326, 3) := dk_182 1 70 (dk_at dksX4_isGuess_0 8 rfl rfl)
theorem dX4_isGuess_11 : decode cX4_isGuess 11 = .ok (.ifCond .eq 5, 3) := dk_153 0 5 (dk_at dksX4_isGuess_0 11 rfl rfl)
theorem dX4_isGuess_14 : decode cX4_isGuess 14 = .ok (.iconst 0, 1) := dk_3 (dk_at dksX4_isGuess_0 14 rfl rfl)
theorem dX4_isGuess_15 : decode cX4_isGuess 15 = .ok (.ireturn, 1) := dk_172 (dk_at dksX4_isGuess_0 15 rfl rfl)
theorem dX4_isGuess_16 : decode cX4_isGuess 16 = .ok (.aload_n 0, 1) := dk_42 (dk_at dksX4_isGuess_0 16 rfl rfl)
theorem dX4_isGuess_17 : decode cX4_isGuess 17 = .ok (.invokevirtual 390, 3) := dk_182 1 134 (dk_at dksX4_isGuess_0 17 rfl rfl)
theorem dX4_isGuess_20 : decode cX4_isGuess 20 = .ok (.aload_n 0, 1) := dk_42 (dk_at dksX4_isGuess_0 20 rfl rfl)
theorem dX4_isGuess_21 : decode cX4_isGuess 21 = .ok (.bipush 49, 2) := dk_16 49 (dk_at dksX4_isGuess_0 21 rfl rfl)
theorem dX4_isGuess_23 : decode cX4_isGuess 23 = .ok (.iload_n 2, 1) := dk_28 (dk_at dksX4_isGuess_0 23 rfl rfl)
theorem dX4_isGuess_24 : decode cX4_isGuess 24 = .ok (.iload_n 1, 1) := dk_27 (dk_at dksX4_isGuess_1 0 rfl rfl)
theorem dX4_isGuess_25 : decode cX4_isGuess 25 = .ok (.bipush 50, 2) := dk_16 50 (dk_at dksX4_isGuess_1 1 rfl rfl)
theorem dX4_isGuess_27 : decode cX4_isGuess 27 = .ok (.irem, 1) := dk_112 (dk_at dksX4_isGuess_1 3 rfl rfl)
theorem dX4_isGuess_28 : decode cX4_isGuess 28 = .ok (.iconst 1, 1) := dk_4 (dk_at dksX4_isGuess_1 4 rfl rfl)
theorem dX4_isGuess_29 : decode cX4_isGuess 29 = .ok (.iadd, 1) := dk_96 (dk_at dksX4_isGuess_1 5 rfl rfl)
theorem dX4_isGuess_30 : decode cX4_isGuess 30 = .ok (.invokevirtual 349, 3) := dk_182 1 93 (dk_at dksX4_isGuess_1 6 rfl rfl)
theorem dX4_isGuess_33 : decode cX4_isGuess 33 = .ok (.aload_n 0, 1) := dk_42 (dk_at dksX4_isGuess_1 9 rfl rfl)
theorem dX4_isGuess_34 : decode cX4_isGuess 34 = .ok (.invokevirtual 420, 3) := dk_182 1 164 (dk_at dksX4_isGuess_1 10 rfl rfl)
theorem dX4_isGuess_37 : decode cX4_isGuess 37 = .ok (.ireturn, 1) := dk_172 (dk_at dksX4_isGuess_1 13 rfl rfl)
abbrev cX4_torn : ByteArray := prog_12_method_102_code
def yX4_torn : MethodName := ⟨RX4, "torn", "(I)I"⟩
def dkwX4_torn_4 : List UInt8 := [62, 132, 4, 1, 167, 255, 204, 27, 154, 0, 7, 28, 167, 0, 4, 29, 172]
abbrev dktX4_torn_4 : List UInt8 := dkwX4_torn_4 ++ []
def dkwX4_torn_3 : List UInt8 := [132, 2, 1, 29, 2, 160, 0, 20, 21, 4, 16, 50, 108, 16, 100, 104, 21, 4, 16, 50, 112, 96, 4, 96]
abbrev dktX4_torn_3 : List UInt8 := dkwX4_torn_3 ++ dktX4_torn_4
def dkwX4_torn_2 : List UInt8 := [21, 4, 16, 50, 42, 180, 0, 7, 104, 162, 0, 46, 42, 21, 4, 182, 1, 167, 154, 0, 6, 167, 0, 28]
abbrev dktX4_torn_2 : List UInt8 := dkwX4_torn_2 ++ dktX4_torn_3
def dkwX4_torn_1 : List UInt8 := [182, 1, 134, 42, 182, 1, 164, 153, 0, 7, 4, 167, 0, 4, 3, 172, 3, 61, 2, 62, 3, 54, 4]
abbrev dktX4_torn_1 : List UInt8 := dkwX4_torn_1 ++ dktX4_torn_2
def dkwX4_torn_0 : List UInt8 := [42, 3, 181, 0, 117, 42, 27, 5, 182, 1, 122, 154, 0, 5, 3, 172, 27, 5, 160, 0, 20, 42]
abbrev dktX4_torn_0 : List UInt8 := dkwX4_torn_0 ++ dktX4_torn_1
theorem dksX4_torn_0 : cX4_torn.data.toList.drop 0 = dktX4_torn_0 := by decide +kernel
theorem dksX4_torn_1 : cX4_torn.data.toList.drop 22 = dktX4_torn_1 := dk_seg dksX4_torn_0 22 rfl rfl
theorem dksX4_torn_2 : cX4_torn.data.toList.drop 45 = dktX4_torn_2 := dk_seg dksX4_torn_1 23 rfl rfl
theorem dksX4_torn_3 : cX4_torn.data.toList.drop 69 = dktX4_torn_3 := dk_seg dksX4_torn_2 24 rfl rfl
theorem dksX4_torn_4 : cX4_torn.data.toList.drop 93 = dktX4_torn_4 := dk_seg dksX4_torn_3 24 rfl rfl
theorem dX4_torn_0 : decode cX4_torn 0 = .ok (.aload_n 0, 1) := dk_42 (dk_at dksX4_torn_0 0 rfl rfl)
theorem dX4_torn_1 : decode cX4_torn 1 = .ok (.iconst 0, 1) := dk_3 (dk_at dksX4_torn_0 1 rfl rfl)
theorem dX4_torn_2 : decode cX4_torn 2 = .ok (.putfield 117, 3) := dk_181 0 117 (dk_at dksX4_torn_0 2 rfl rfl)
theorem dX4_torn_5 : decode cX4_torn 5 = .ok (.aload_n 0, 1) := dk_42 (dk_at dksX4_torn_0 5 rfl rfl)
theorem dX4_torn_6 : decode cX4_torn 6 = .ok (.iload_n 1, 1) := dk_27 (dk_at dksX4_torn_0 6 rfl rfl)
theorem dX4_torn_7 : decode cX4_torn 7 = .ok (.iconst 2, 1) := dk_5 (dk_at dksX4_torn_0 7 rfl rfl)
theorem dX4_torn_8 : decode cX4_torn 8 = .ok (.invokevirtual 378, 3) := dk_182 1 122 (dk_at dksX4_torn_0 8 rfl rfl)
theorem dX4_torn_11 : decode cX4_torn 11 = .ok (.ifCond .ne 5, 3) := dk_154 0 5 (dk_at dksX4_torn_0 11 rfl rfl)
theorem dX4_torn_14 : decode cX4_torn 14 = .ok (.iconst 0, 1) := dk_3 (dk_at dksX4_torn_0 14 rfl rfl)
theorem dX4_torn_15 : decode cX4_torn 15 = .ok (.ireturn, 1) := dk_172 (dk_at dksX4_torn_0 15 rfl rfl)
theorem dX4_torn_16 : decode cX4_torn 16 = .ok (.iload_n 1, 1) := dk_27 (dk_at dksX4_torn_0 16 rfl rfl)
theorem dX4_torn_17 : decode cX4_torn 17 = .ok (.iconst 2, 1) := dk_5 (dk_at dksX4_torn_0 17 rfl rfl)
theorem dX4_torn_18 : decode cX4_torn 18 = .ok (.if_icmp .ne 20, 3) := dk_160 0 20 (dk_at dksX4_torn_0 18 rfl rfl)
theorem dX4_torn_21 : decode cX4_torn 21 = .ok (.aload_n 0, 1) := dk_42 (dk_at dksX4_torn_0 21 rfl rfl)
theorem dX4_torn_22 : decode cX4_torn 22 = .ok (.invokevirtual 390, 3) := dk_182 1 134 (dk_at dksX4_torn_1 0 rfl rfl)
theorem dX4_torn_25 : decode cX4_torn 25 = .ok (.aload_n 0, 1) := dk_42 (dk_at dksX4_torn_1 3 rfl rfl)
theorem dX4_torn_26 : decode cX4_torn 26 = .ok (.invokevirtual 420, 3) := dk_182 1 164 (dk_at dksX4_torn_1 4 rfl rfl)
theorem dX4_torn_29 : decode cX4_torn 29 = .ok (.ifCond .eq 7, 3) := dk_153 0 7 (dk_at dksX4_torn_1 7 rfl rfl)
theorem dX4_torn_32 : decode cX4_torn 32 = .ok (.iconst 1, 1) := dk_4 (dk_at dksX4_torn_1 10 rfl rfl)
theorem dX4_torn_33 : decode cX4_torn 33 = .ok (.goto 4, 3) := dk_167 0 4 (dk_at dksX4_torn_1 11 rfl rfl)
theorem dX4_torn_36 : decode cX4_torn 36 = .ok (.iconst 0, 1) := dk_3 (dk_at dksX4_torn_1 14 rfl rfl)
theorem dX4_torn_37 : decode cX4_torn 37 = .ok (.ireturn, 1) := dk_172 (dk_at dksX4_torn_1 15 rfl rfl)
theorem dX4_torn_38 : decode cX4_torn 38 = .ok (.iconst 0, 1) := dk_3 (dk_at dksX4_torn_1 16 rfl rfl)
theorem dX4_torn_39 : decode cX4_torn 39 = .ok (.istore_n 2, 1) := dk_61 (dk_at dksX4_torn_1 17 rfl rfl)
theorem dX4_torn_40 : decode cX4_torn 40 = .ok (.iconst (-1), 1) := dk_2 (dk_at dksX4_torn_1 18 rfl rfl)
theorem dX4_torn_41 : decode cX4_torn 41 = .ok (.istore_n 3, 1) := dk_62 (dk_at dksX4_torn_1 19 rfl rfl)
theorem dX4_torn_42 : decode cX4_torn 42 = .ok (.iconst 0, 1) := dk_3 (dk_at dksX4_torn_1 20 rfl rfl)
theorem dX4_torn_43 : decode cX4_torn 43 = .ok (.istore 4, 2) := dk_54 4 (dk_at dksX4_torn_1 21 rfl rfl)
theorem dX4_torn_45 : decode cX4_torn 45 = .ok (.iload 4, 2) := dk_21 4 (dk_at dksX4_torn_2 0 rfl rfl)
theorem dX4_torn_47 : decode cX4_torn 47 = .ok (.bipush 50, 2) := dk_16 50 (dk_at dksX4_torn_2 2 rfl rfl)
theorem dX4_torn_49 : decode cX4_torn 49 = .ok (.aload_n 0, 1) := dk_42 (dk_at dksX4_torn_2 4 rfl rfl)
theorem dX4_torn_50 : decode cX4_torn 50 = .ok (.getfield 7, 3) := dk_180 0 7 (dk_at dksX4_torn_2 5 rfl rfl)
theorem dX4_torn_53 : decode cX4_torn 53 = .ok (.imul, 1) := dk_104 (dk_at dksX4_torn_2 8 rfl rfl)
theorem dX4_torn_54 : decode cX4_torn 54 = .ok (.if_icmp .ge 46, 3) := dk_162 0 46 (dk_at dksX4_torn_2 9 rfl rfl)
theorem dX4_torn_57 : decode cX4_torn 57 = .ok (.aload_n 0, 1) := dk_42 (dk_at dksX4_torn_2 12 rfl rfl)
theorem dX4_torn_58 : decode cX4_torn 58 = .ok (.iload 4, 2) := dk_21 4 (dk_at dksX4_torn_2 13 rfl rfl)
theorem dX4_torn_60 : decode cX4_torn 60 = .ok (.invokevirtual 423, 3) := dk_182 1 167 (dk_at dksX4_torn_2 15 rfl rfl)
theorem dX4_torn_63 : decode cX4_torn 63 = .ok (.ifCond .ne 6, 3) := dk_154 0 6 (dk_at dksX4_torn_2 18 rfl rfl)
theorem dX4_torn_66 : decode cX4_torn 66 = .ok (.goto 28, 3) := dk_167 0 28 (dk_at dksX4_torn_2 21 rfl rfl)
theorem dX4_torn_69 : decode cX4_torn 69 = .ok (.iinc 2 1, 3) := dk_132 2 1 (dk_at dksX4_torn_3 0 rfl rfl)
theorem dX4_torn_72 : decode cX4_torn 72 = .ok (.iload_n 3, 1) := dk_29 (dk_at dksX4_torn_3 3 rfl rfl)
theorem dX4_torn_73 : decode cX4_torn 73 = .ok (.iconst (-1), 1) := dk_2 (dk_at dksX4_torn_3 4 rfl rfl)
theorem dX4_torn_74 : decode cX4_torn 74 = .ok (.if_icmp .ne 20, 3) := dk_160 0 20 (dk_at dksX4_torn_3 5 rfl rfl)
theorem dX4_torn_77 : decode cX4_torn 77 = .ok (.iload 4, 2) := dk_21 4 (dk_at dksX4_torn_3 8 rfl rfl)
theorem dX4_torn_79 : decode cX4_torn 79 = .ok (.bipush 50, 2) := dk_16 50 (dk_at dksX4_torn_3 10 rfl rfl)
theorem dX4_torn_81 : decode cX4_torn 81 = .ok (.idiv, 1) := dk_108 (dk_at dksX4_torn_3 12 rfl rfl)
theorem dX4_torn_82 : decode cX4_torn 82 = .ok (.bipush 100, 2) := dk_16 100 (dk_at dksX4_torn_3 13 rfl rfl)
theorem dX4_torn_84 : decode cX4_torn 84 = .ok (.imul, 1) := dk_104 (dk_at dksX4_torn_3 15 rfl rfl)
theorem dX4_torn_85 : decode cX4_torn 85 = .ok (.iload 4, 2) := dk_21 4 (dk_at dksX4_torn_3 16 rfl rfl)
theorem dX4_torn_87 : decode cX4_torn 87 = .ok (.bipush 50, 2) := dk_16 50 (dk_at dksX4_torn_3 18 rfl rfl)
theorem dX4_torn_89 : decode cX4_torn 89 = .ok (.irem, 1) := dk_112 (dk_at dksX4_torn_3 20 rfl rfl)
theorem dX4_torn_90 : decode cX4_torn 90 = .ok (.iadd, 1) := dk_96 (dk_at dksX4_torn_3 21 rfl rfl)
theorem dX4_torn_91 : decode cX4_torn 91 = .ok (.iconst 1, 1) := dk_4 (dk_at dksX4_torn_3 22 rfl rfl)
theorem dX4_torn_92 : decode cX4_torn 92 = .ok (.iadd, 1) := dk_96 (dk_at dksX4_torn_3 23 rfl rfl)
theorem dX4_torn_93 : decode cX4_torn 93 = .ok (.istore_n 3, 1) := dk_62 (dk_at dksX4_torn_4 0 rfl rfl)
theorem dX4_torn_94 : decode cX4_torn 94 = .ok (.iinc 4 1, 3) := dk_132 4 1 (dk_at dksX4_torn_4 1 rfl rfl)
theorem dX4_torn_97 : decode cX4_torn 97 = .ok (.goto (-52), 3) := dk_167 255 204 (dk_at dksX4_torn_4 4 rfl rfl)
theorem dX4_torn_100 : decode cX4_torn 100 = .ok (.iload_n 1, 1) := dk_27 (dk_at dksX4_torn_4 7 rfl rfl)
theorem dX4_torn_101 : decode cX4_torn 101 = .ok (.ifCond .ne 7, 3) := dk_154 0 7 (dk_at dksX4_torn_4 8 rfl rfl)
theorem dX4_torn_104 : decode cX4_torn 104 = .ok (.iload_n 2, 1) := dk_28 (dk_at dksX4_torn_4 11 rfl rfl)
theorem dX4_torn_105 : decode cX4_torn 105 = .ok (.goto 4, 3) := dk_167 0 4 (dk_at dksX4_torn_4 12 rfl rfl)
theorem dX4_torn_108 : decode cX4_torn 108 = .ok (.iload_n 3, 1) := dk_29 (dk_at dksX4_torn_4 15 rfl rfl)
theorem dX4_torn_109 : decode cX4_torn 109 = .ok (.ireturn, 1) := dk_172 (dk_at dksX4_torn_4 16 rfl rfl)
abbrev cX4_look : ByteArray := prog_12_method_103_code
def yX4_look : MethodName := ⟨RX4, "look", "(I)I"⟩
def dkwX4_look_9 : List UInt8 := [132, 5, 1, 167, 255, 134, 27, 154, 0, 7, 29, 167, 0, 5, 21, 4, 172]
abbrev dktX4_look_9 : List UInt8 := dkwX4_look_9 ++ []
def dkwX4_look_8 : List UInt8 := [132, 7, 1, 167, 255, 172, 21, 6, 21, 4, 163, 0, 6, 167, 0, 10, 21, 5, 62, 21, 6, 54, 4]
abbrev dktX4_look_8 : List UInt8 := dkwX4_look_8 ++ dktX4_look_9
def dkwX4_look_7 : List UInt8 := [3, 54, 8, 132, 9, 1, 167, 255, 205, 21, 6, 21, 8, 153, 0, 7, 4, 167, 0, 4, 3, 96, 54, 6]
abbrev dktX4_look_7 : List UInt8 := dkwX4_look_7 ++ dktX4_look_8
def dkwX4_look_6 : List UInt8 := [21, 5, 96, 46, 42, 180, 0, 102, 16, 12, 21, 9, 104, 21, 5, 96, 46, 159, 0, 7, 4, 167, 0, 4]
abbrev dktX4_look_6 : List UInt8 := dkwX4_look_6 ++ dktX4_look_7
def dkwX4_look_5 : List UInt8 := [3, 54, 9, 21, 9, 21, 7, 162, 0, 50, 21, 8, 153, 0, 45, 42, 180, 0, 102, 16, 12, 21, 7, 104]
abbrev dktX4_look_5 : List UInt8 := dkwX4_look_5 ++ dktX4_look_6
def dkwX4_look_4 : List UInt8 := [21, 5, 42, 180, 0, 7, 162, 0, 119, 3, 54, 6, 3, 54, 7, 21, 7, 28, 162, 0, 84, 4, 54, 8]
abbrev dktX4_look_4 : List UInt8 := dkwX4_look_4 ++ dktX4_look_5
def dkwX4_look_3 : List UInt8 := [79, 132, 4, 1, 167, 255, 225, 132, 2, 1, 132, 3, 1, 167, 255, 191, 2, 62, 3, 54, 4, 3, 54, 5]
abbrev dktX4_look_3 : List UInt8 := dkwX4_look_3 ++ dktX4_look_4
def dkwX4_look_2 : List UInt8 := [180, 0, 7, 162, 0, 28, 42, 180, 0, 102, 16, 12, 28, 104, 21, 4, 96, 42, 180, 0, 99, 21, 4, 46]
abbrev dktX4_look_2 : List UInt8 := dkwX4_look_2 ++ dktX4_look_3
def dkwX4_look_1 : List UInt8 := [180, 0, 7, 104, 162, 0, 60, 42, 29, 182, 1, 167, 154, 0, 6, 167, 0, 43, 3, 54, 4, 21, 4, 42]
abbrev dktX4_look_1 : List UInt8 := dkwX4_look_1 ++ dktX4_look_2
def dkwX4_look_0 : List UInt8 := [42, 3, 181, 0, 117, 42, 27, 4, 182, 1, 122, 154, 0, 5, 3, 172, 3, 61, 3, 62, 29, 16, 50, 42]
abbrev dktX4_look_0 : List UInt8 := dkwX4_look_0 ++ dktX4_look_1
theorem dksX4_look_0 : cX4_look.data.toList.drop 0 = dktX4_look_0 := by decide +kernel
theorem dksX4_look_1 : cX4_look.data.toList.drop 24 = dktX4_look_1 := dk_seg dksX4_look_0 24 rfl rfl
theorem dksX4_look_2 : cX4_look.data.toList.drop 48 = dktX4_look_2 := dk_seg dksX4_look_1 24 rfl rfl
theorem dksX4_look_3 : cX4_look.data.toList.drop 72 = dktX4_look_3 := dk_seg dksX4_look_2 24 rfl rfl
theorem dksX4_look_4 : cX4_look.data.toList.drop 96 = dktX4_look_4 := dk_seg dksX4_look_3 24 rfl rfl
theorem dksX4_look_5 : cX4_look.data.toList.drop 120 = dktX4_look_5 := dk_seg dksX4_look_4 24 rfl rfl
theorem dksX4_look_6 : cX4_look.data.toList.drop 144 = dktX4_look_6 := dk_seg dksX4_look_5 24 rfl rfl
theorem dksX4_look_7 : cX4_look.data.toList.drop 168 = dktX4_look_7 := dk_seg dksX4_look_6 24 rfl rfl
theorem dksX4_look_8 : cX4_look.data.toList.drop 192 = dktX4_look_8 := dk_seg dksX4_look_7 24 rfl rfl
theorem dksX4_look_9 : cX4_look.data.toList.drop 215 = dktX4_look_9 := dk_seg dksX4_look_8 23 rfl rfl
theorem dX4_look_0 : decode cX4_look 0 = .ok (.aload_n 0, 1) := dk_42 (dk_at dksX4_look_0 0 rfl rfl)
theorem dX4_look_1 : decode cX4_look 1 = .ok (.iconst 0, 1) := dk_3 (dk_at dksX4_look_0 1 rfl rfl)
theorem dX4_look_2 : decode cX4_look 2 = .ok (.putfield 117, 3) := dk_181 0 117 (dk_at dksX4_look_0 2 rfl rfl)
theorem dX4_look_5 : decode cX4_look 5 = .ok (.aload_n 0, 1) := dk_42 (dk_at dksX4_look_0 5 rfl rfl)
theorem dX4_look_6 : decode cX4_look 6 = .ok (.iload_n 1, 1) := dk_27 (dk_at dksX4_look_0 6 rfl rfl)
theorem dX4_look_7 : decode cX4_look 7 = .ok (.iconst 1, 1) := dk_4 (dk_at dksX4_look_0 7 rfl rfl)
theorem dX4_look_8 : decode cX4_look 8 = .ok (.invokevirtual 378, 3) := dk_182 1 122 (dk_at dksX4_look_0 8 rfl rfl)
theorem dX4_look_11 : decode cX4_look 11 = .ok (.ifCond .ne 5, 3) := dk_154 0 5 (dk_at dksX4_look_0 11 rfl rfl)
theorem dX4_look_14 : decode cX4_look 14 = .ok (.iconst 0, 1) := dk_3 (dk_at dksX4_look_0 14 rfl rfl)
theorem dX4_look_15 : decode cX4_look 15 = .ok (.ireturn, 1) := dk_172 (dk_at dksX4_look_0 15 rfl rfl)
theorem dX4_look_16 : decode cX4_look 16 = .ok (.iconst 0, 1) := dk_3 (dk_at dksX4_look_0 16 rfl rfl)
theorem dX4_look_17 : decode cX4_look 17 = .ok (.istore_n 2, 1) := dk_61 (dk_at dksX4_look_0 17 rfl rfl)
theorem dX4_look_18 : decode cX4_look 18 = .ok (.iconst 0, 1) := dk_3 (dk_at dksX4_look_0 18 rfl rfl)
theorem dX4_look_19 : decode cX4_look 19 = .ok (.istore_n 3, 1) := dk_62 (dk_at dksX4_look_0 19 rfl rfl)
theorem dX4_look_20 : decode cX4_look 20 = .ok (.iload_n 3, 1) := dk_29 (dk_at dksX4_look_0 20 rfl rfl)
theorem dX4_look_21 : decode cX4_look 21 = .ok (.bipush 50, 2) := dk_16 50 (dk_at dksX4_look_0 21 rfl rfl)
theorem dX4_look_23 : decode cX4_look 23 = .ok (.aload_n 0, 1) := dk_42 (dk_at dksX4_look_0 23 rfl rfl)
theorem dX4_look_24 : decode cX4_look 24 = .ok (.getfield 7, 3) := dk_180 0 7 (dk_at dksX4_look_1 0 rfl rfl)
theorem dX4_look_27 : decode cX4_look 27 = .ok (.imul, 1) := dk_104 (dk_at dksX4_look_1 3 rfl rfl)
theorem dX4_look_28 : decode cX4_look 28 = .ok (.if_icmp .ge 60, 3) := dk_162 0 60 (dk_at dksX4_look_1 4 rfl rfl)
theorem dX4_look_31 : decode cX4_look 31 = .ok (.aload_n 0, 1) := dk_42 (dk_at dksX4_look_1 7 rfl rfl)
theorem dX4_look_32 : decode cX4_look 32 = .ok (.iload_n 3, 1) := dk_29 (dk_at dksX4_look_1 8 rfl rfl)
theorem dX4_look_33 : decode cX4_look 33 = .ok (.invokevirtual 423, 3) := dk_182 1 167 (dk_at dksX4_look_1 9 rfl rfl)
theorem dX4_look_36 : decode cX4_look 36 = .ok (.ifCond .ne 6, 3) := dk_154 0 6 (dk_at dksX4_look_1 12 rfl rfl)
theorem dX4_look_39 : decode cX4_look 39 = .ok (.goto 43, 3) := dk_167 0 43 (dk_at dksX4_look_1 15 rfl rfl)
theorem dX4_look_42 : decode cX4_look 42 = .ok (.iconst 0, 1) := dk_3 (dk_at dksX4_look_1 18 rfl rfl)
theorem dX4_look_43 : decode cX4_look 43 = .ok (.istore 4, 2) := dk_54 4 (dk_at dksX4_look_1 19 rfl rfl)
theorem dX4_look_45 : decode cX4_look 45 = .ok (.iload 4, 2) := dk_21 4 (dk_at dksX4_look_1 21 rfl rfl)
theorem dX4_look_47 : decode cX4_look 47 = .ok (.aload_n 0, 1) := dk_42 (dk_at dksX4_look_1 23 rfl rfl)
theorem dX4_look_48 : decode cX4_look 48 = .ok (.getfield 7, 3) := dk_180 0 7 (dk_at dksX4_look_2 0 rfl rfl)
theorem dX4_look_51 : decode cX4_look 51 = .ok (.if_icmp .ge 28, 3) := dk_162 0 28 (dk_at dksX4_look_2 3 rfl rfl)
theorem dX4_look_54 : decode cX4_look 54 = .ok (.aload_n 0, 1) := dk_42 (dk_at dksX4_look_2 6 rfl rfl)
theorem dX4_look_55 : decode cX4_look 55 = .ok (.getfield 102, 3) := dk_180 0 102 (dk_at dksX4_look_2 7 rfl rfl)
theorem dX4_look_58 : decode cX4_look 58 = .ok (.bipush 12, 2) := dk_16 12 (dk_at dksX4_look_2 10 rfl rfl)
theorem dX4_look_60 : decode cX4_look 60 = .ok (.iload_n 2, 1) := dk_28 (dk_at dksX4_look_2 12 rfl rfl)
theorem dX4_look_61 : decode cX4_look 61 = .ok (.imul, 1) := dk_104 (dk_at dksX4_look_2 13 rfl rfl)
theorem dX4_look_62 : decode cX4_look 62 = .ok (.iload 4, 2) := dk_21 4 (dk_at dksX4_look_2 14 rfl rfl)
theorem dX4_look_64 : decode cX4_look 64 = .ok (.iadd, 1) := dk_96 (dk_at dksX4_look_2 16 rfl rfl)
theorem dX4_look_65 : decode cX4_look 65 = .ok (.aload_n 0, 1) := dk_42 (dk_at dksX4_look_2 17 rfl rfl)
theorem dX4_look_66 : decode cX4_look 66 = .ok (.getfield 99, 3) := dk_180 0 99 (dk_at dksX4_look_2 18 rfl rfl)
theorem dX4_look_69 : decode cX4_look 69 = .ok (.iload 4, 2) := dk_21 4 (dk_at dksX4_look_2 21 rfl rfl)
theorem dX4_look_71 : decode cX4_look 71 = .ok (.iaload, 1) := dk_46 (dk_at dksX4_look_2 23 rfl rfl)
theorem dX4_look_72 : decode cX4_look 72 = .ok (.iastore, 1) := dk_79 (dk_at dksX4_look_3 0 rfl rfl)
theorem dX4_look_73 : decode cX4_look 73 = .ok (.iinc 4 1, 3) := dk_132 4 1 (dk_at dksX4_look_3 1 rfl rfl)
theorem dX4_look_76 : decode cX4_look 76 = .ok (.goto (-31), 3) := dk_167 255 225 (dk_at dksX4_look_3 4 rfl rfl)
theorem dX4_look_79 : decode cX4_look 79 = .ok (.iinc 2 1, 3) := dk_132 2 1 (dk_at dksX4_look_3 7 rfl rfl)
theorem dX4_look_82 : decode cX4_look 82 = .ok (.iinc 3 1, 3) := dk_132 3 1 (dk_at dksX4_look_3 10 rfl rfl)
theorem dX4_look_85 : decode cX4_look 85 = .ok (.goto (-65), 3) := dk_167 255 191 (dk_at dksX4_look_3 13 rfl rfl)
theorem dX4_look_88 : decode cX4_look 88 = .ok (.iconst (-1), 1) := dk_2 (dk_at dksX4_look_3 16 rfl rfl)
theorem dX4_look_89 : decode cX4_look 89 = .ok (.istore_n 3, 1) := dk_62 (dk_at dksX4_look_3 17 rfl rfl)
theorem dX4_look_90 : decode cX4_look 90 = .ok (.iconst 0, 1) := dk_3 (dk_at dksX4_look_3 18 rfl rfl)
theorem dX4_look_91 : decode cX4_look 91 = .ok (.istore 4, 2) := dk_54 4 (dk_at dksX4_look_3 19 rfl rfl)
theorem dX4_look_93 : decode cX4_look 93 = .ok (.iconst 0, 1) := dk_3 (dk_at dksX4_look_3 21 rfl rfl)
theorem dX4_look_94 : decode cX4_look 94 = .ok (.istore 5, 2) := dk_54 5 (dk_at dksX4_look_3 22 rfl rfl)
theorem dX4_look_96 : decode cX4_look 96 = .ok (.iload 5, 2) := dk_21 5 (dk_at dksX4_look_4 0 rfl rfl)
theorem dX4_look_98 : decode cX4_look 98 = .ok (.aload_n 0, 1) := dk_42 (dk_at dksX4_look_4 2 rfl rfl)
theorem dX4_look_99 : decode cX4_look 99 = .ok (.getfield 7, 3) := dk_180 0 7 (dk_at dksX4_look_4 3 rfl rfl)
theorem dX4_look_102 : decode cX4_look 102 = .ok (.if_icmp .ge 119, 3) := dk_162 0 119 (dk_at dksX4_look_4 6 rfl rfl)
theorem dX4_look_105 : decode cX4_look 105 = .ok (.iconst 0, 1) := dk_3 (dk_at dksX4_look_4 9 rfl rfl)
theorem dX4_look_106 : decode cX4_look 106 = .ok (.istore 6, 2) := dk_54 6 (dk_at dksX4_look_4 10 rfl rfl)
theorem dX4_look_108 : decode cX4_look 108 = .ok (.iconst 0, 1) := dk_3 (dk_at dksX4_look_4 12 rfl rfl)
theorem dX4_look_109 : decode cX4_look 109 = .ok (.istore 7, 2) := dk_54 7 (dk_at dksX4_look_4 13 rfl rfl)
theorem dX4_look_111 : decode cX4_look 111 = .ok (.iload 7, 2) := dk_21 7 (dk_at dksX4_look_4 15 rfl rfl)
theorem dX4_look_113 : decode cX4_look 113 = .ok (.iload_n 2, 1) := dk_28 (dk_at dksX4_look_4 17 rfl rfl)
theorem dX4_look_114 : decode cX4_look 114 = .ok (.if_icmp .ge 84, 3) := dk_162 0 84 (dk_at dksX4_look_4 18 rfl rfl)
theorem dX4_look_117 : decode cX4_look 117 = .ok (.iconst 1, 1) := dk_4 (dk_at dksX4_look_4 21 rfl rfl)
theorem dX4_look_118 : decode cX4_look 118 = .ok (.istore 8, 2) := dk_54 8 (dk_at dksX4_look_4 22 rfl rfl)
theorem dX4_look_120 : decode cX4_look 120 = .ok (.iconst 0, 1) := dk_3 (dk_at dksX4_look_5 0 rfl rfl)
theorem dX4_look_121 : decode cX4_look 121 = .ok (.istore 9, 2) := dk_54 9 (dk_at dksX4_look_5 1 rfl rfl)
theorem dX4_look_123 : decode cX4_look 123 = .ok (.iload 9, 2) := dk_21 9 (dk_at dksX4_look_5 3 rfl rfl)
theorem dX4_look_125 : decode cX4_look 125 = .ok (.iload 7, 2) := dk_21 7 (dk_at dksX4_look_5 5 rfl rfl)
theorem dX4_look_127 : decode cX4_look 127 = .ok (.if_icmp .ge 50, 3) := dk_162 0 50 (dk_at dksX4_look_5 7 rfl rfl)
theorem dX4_look_130 : decode cX4_look 130 = .ok (.iload 8, 2) := dk_21 8 (dk_at dksX4_look_5 10 rfl rfl)
theorem dX4_look_132 : decode cX4_look 132 = .ok (.ifCond .eq 45, 3) := dk_153 0 45 (dk_at dksX4_look_5 12 rfl rfl)
theorem dX4_look_135 : decode cX4_look 135 = .ok (.aload_n 0, 1) := dk_42 (dk_at dksX4_look_5 15 rfl rfl)
theorem dX4_look_136 : decode cX4_look 136 = .ok (.getfield 102, 3) := dk_180 0 102 (dk_at dksX4_look_5 16 rfl rfl)
theorem dX4_look_139 : decode cX4_look 139 = .ok (.bipush 12, 2) := dk_16 12 (dk_at dksX4_look_5 19 rfl rfl)
theorem dX4_look_141 : decode cX4_look 141 = .ok (.iload 7, 2) := dk_21 7 (dk_at dksX4_look_5 21 rfl rfl)
theorem dX4_look_143 : decode cX4_look 143 = .ok (.imul, 1) := dk_104 (dk_at dksX4_look_5 23 rfl rfl)
theorem dX4_look_144 : decode cX4_look 144 = .ok (.iload 5, 2) := dk_21 5 (dk_at dksX4_look_6 0 rfl rfl)
theorem dX4_look_146 : decode cX4_look 146 = .ok (.iadd, 1) := dk_96 (dk_at dksX4_look_6 2 rfl rfl)
theorem dX4_look_147 : decode cX4_look 147 = .ok (.iaload, 1) := dk_46 (dk_at dksX4_look_6 3 rfl rfl)
theorem dX4_look_148 : decode cX4_look 148 = .ok (.aload_n 0, 1) := dk_42 (dk_at dksX4_look_6 4 rfl rfl)
theorem dX4_look_149 : decode cX4_look 149 = .ok (.getfield 102, 3) := dk_180 0 102 (dk_at dksX4_look_6 5 rfl rfl)
theorem dX4_look_152 : decode cX4_look 152 = .ok (.bipush 12, 2) := dk_16 12 (dk_at dksX4_look_6 8 rfl rfl)
theorem dX4_look_154 : decode cX4_look 154 = .ok (.iload 9, 2) := dk_21 9 (dk_at dksX4_look_6 10 rfl rfl)
theorem dX4_look_156 : decode cX4_look 156 = .ok (.imul, 1) := dk_104 (dk_at dksX4_look_6 12 rfl rfl)
theorem dX4_look_157 : decode cX4_look 157 = .ok (.iload 5, 2) := dk_21 5 (dk_at dksX4_look_6 13 rfl rfl)
theorem dX4_look_159 : decode cX4_look 159 = .ok (.iadd, 1) := dk_96 (dk_at dksX4_look_6 15 rfl rfl)
theorem dX4_look_160 : decode cX4_look 160 = .ok (.iaload, 1) := dk_46 (dk_at dksX4_look_6 16 rfl rfl)
theorem dX4_look_161 : decode cX4_look 161 = .ok (.if_icmp .eq 7, 3) := dk_159 0 7 (dk_at dksX4_look_6 17 rfl rfl)
theorem dX4_look_164 : decode cX4_look 164 = .ok (.iconst 1, 1) := dk_4 (dk_at dksX4_look_6 20 rfl rfl)
theorem dX4_look_165 : decode cX4_look 165 = .ok (.goto 4, 3) := dk_167 0 4 (dk_at dksX4_look_6 21 rfl rfl)
theorem dX4_look_168 : decode cX4_look 168 = .ok (.iconst 0, 1) := dk_3 (dk_at dksX4_look_7 0 rfl rfl)
theorem dX4_look_169 : decode cX4_look 169 = .ok (.istore 8, 2) := dk_54 8 (dk_at dksX4_look_7 1 rfl rfl)
theorem dX4_look_171 : decode cX4_look 171 = .ok (.iinc 9 1, 3) := dk_132 9 1 (dk_at dksX4_look_7 3 rfl rfl)
theorem dX4_look_174 : decode cX4_look 174 = .ok (.goto (-51), 3) := dk_167 255 205 (dk_at dksX4_look_7 6 rfl rfl)
theorem dX4_look_177 : decode cX4_look 177 = .ok (.iload 6, 2) := dk_21 6 (dk_at dksX4_look_7 9 rfl rfl)
theorem dX4_look_179 : decode cX4_look 179 = .ok (.iload 8, 2) := dk_21 8 (dk_at dksX4_look_7 11 rfl rfl)
theorem dX4_look_181 : decode cX4_look 181 = .ok (.ifCond .eq 7, 3) := dk_153 0 7 (dk_at dksX4_look_7 13 rfl rfl)
theorem dX4_look_184 : decode cX4_look 184 = .ok (.iconst 1, 1) := dk_4 (dk_at dksX4_look_7 16 rfl rfl)
theorem dX4_look_185 : decode cX4_look 185 = .ok (.goto 4, 3) := dk_167 0 4 (dk_at dksX4_look_7 17 rfl rfl)
theorem dX4_look_188 : decode cX4_look 188 = .ok (.iconst 0, 1) := dk_3 (dk_at dksX4_look_7 20 rfl rfl)
theorem dX4_look_189 : decode cX4_look 189 = .ok (.iadd, 1) := dk_96 (dk_at dksX4_look_7 21 rfl rfl)
theorem dX4_look_190 : decode cX4_look 190 = .ok (.istore 6, 2) := dk_54 6 (dk_at dksX4_look_7 22 rfl rfl)
theorem dX4_look_192 : decode cX4_look 192 = .ok (.iinc 7 1, 3) := dk_132 7 1 (dk_at dksX4_look_8 0 rfl rfl)
theorem dX4_look_195 : decode cX4_look 195 = .ok (.goto (-84), 3) := dk_167 255 172 (dk_at dksX4_look_8 3 rfl rfl)
theorem dX4_look_198 : decode cX4_look 198 = .ok (.iload 6, 2) := dk_21 6 (dk_at dksX4_look_8 6 rfl rfl)
theorem dX4_look_200 : decode cX4_look 200 = .ok (.iload 4, 2) := dk_21 4 (dk_at dksX4_look_8 8 rfl rfl)
theorem dX4_look_202 : decode cX4_look 202 = .ok (.if_icmp .gt 6, 3) := dk_163 0 6 (dk_at dksX4_look_8 10 rfl rfl)
theorem dX4_look_205 : decode cX4_look 205 = .ok (.goto 10, 3) := dk_167 0 10 (dk_at dksX4_look_8 13 rfl rfl)
theorem dX4_look_208 : decode cX4_look 208 = .ok (.iload 5, 2) := dk_21 5 (dk_at dksX4_look_8 16 rfl rfl)
theorem dX4_look_210 : decode cX4_look 210 = .ok (.istore_n 3, 1) := dk_62 (dk_at dksX4_look_8 18 rfl rfl)
theorem dX4_look_211 : decode cX4_look 211 = .ok (.iload 6, 2) := dk_21 6 (dk_at dksX4_look_8 19 rfl rfl)
theorem dX4_look_213 : decode cX4_look 213 = .ok (.istore 4, 2) := dk_54 4 (dk_at dksX4_look_8 21 rfl rfl)
theorem dX4_look_215 : decode cX4_look 215 = .ok (.iinc 5 1, 3) := dk_132 5 1 (dk_at dksX4_look_9 0 rfl rfl)
theorem dX4_look_218 : decode cX4_look 218 = .ok (.goto (-122), 3) := dk_167 255 134 (dk_at dksX4_look_9 3 rfl rfl)
theorem dX4_look_221 : decode cX4_look 221 = .ok (.iload_n 1, 1) := dk_27 (dk_at dksX4_look_9 6 rfl rfl)
theorem dX4_look_222 : decode cX4_look 222 = .ok (.ifCond .ne 7, 3) := dk_154 0 7 (dk_at dksX4_look_9 7 rfl rfl)
theorem dX4_look_225 : decode cX4_look 225 = .ok (.iload_n 3, 1) := dk_29 (dk_at dksX4_look_9 10 rfl rfl)
theorem dX4_look_226 : decode cX4_look 226 = .ok (.goto 5, 3) := dk_167 0 5 (dk_at dksX4_look_9 11 rfl rfl)
theorem dX4_look_229 : decode cX4_look 229 = .ok (.iload 4, 2) := dk_21 4 (dk_at dksX4_look_9 14 rfl rfl)
theorem dX4_look_231 : decode cX4_look 231 = .ok (.ireturn, 1) := dk_172 (dk_at dksX4_look_9 16 rfl rfl)
abbrev cX4_gales : ByteArray := prog_12_method_104_code
def yX4_gales : MethodName := ⟨RX4, "gales", "(II)I"⟩
def dkwX4_gales_8 : List UInt8 := [132, 4, 1, 167, 255, 111, 29, 172]
abbrev dktX4_gales_8 : List UInt8 := dkwX4_gales_8 ++ []
def dkwX4_gales_7 : List UInt8 := [182, 1, 110, 42, 3, 182, 1, 110, 2, 130, 126, 153, 0, 8, 21, 5, 167, 0, 4, 3, 96, 62]
abbrev dktX4_gales_7 : List UInt8 := dkwX4_gales_7 ++ dktX4_gales_8
def dkwX4_gales_6 : List UInt8 := [132, 8, 1, 167, 255, 218, 42, 16, 49, 182, 1, 103, 132, 6, 1, 167, 255, 161, 29, 42, 16, 49]
abbrev dktX4_gales_6 : List UInt8 := dkwX4_gales_6 ++ dktX4_gales_7
def dkwX4_gales_5 : List UInt8 := [153, 0, 30, 42, 16, 49, 21, 8, 182, 1, 70, 154, 0, 13, 42, 16, 49, 21, 8, 16, 15, 182, 1, 83]
abbrev dktX4_gales_5 : List UInt8 := dkwX4_gales_5 ++ dktX4_gales_6
def dkwX4_gales_4 : List UInt8 := [167, 0, 7, 16, 10, 28, 100, 104, 54, 5, 3, 54, 8, 21, 8, 42, 180, 0, 7, 162, 0, 35, 21, 7]
abbrev dktX4_gales_4 : List UInt8 := dkwX4_gales_4 ++ dktX4_gales_5
def dkwX4_gales_3 : List UInt8 := [21, 6, 122, 4, 126, 4, 160, 0, 7, 4, 167, 0, 4, 3, 54, 7, 21, 5, 21, 7, 153, 0, 7, 28]
abbrev dktX4_gales_3 : List UInt8 := dkwX4_gales_3 ++ dktX4_gales_4
def dkwX4_gales_2 : List UInt8 := [4, 27, 120, 162, 0, 143, 4, 54, 5, 42, 182, 1, 134, 3, 54, 6, 21, 6, 27, 162, 0, 95, 21, 4]
abbrev dktX4_gales_2 : List UInt8 := dkwX4_gales_2 ++ dktX4_gales_3
def dkwX4_gales_1 : List UInt8 := [153, 0, 7, 4, 167, 0, 4, 3, 4, 182, 1, 21, 154, 0, 5, 3, 172, 3, 62, 3, 54, 4, 21, 4]
abbrev dktX4_gales_1 : List UInt8 := dkwX4_gales_1 ++ dktX4_gales_2
def dkwX4_gales_0 : List UInt8 := [42, 3, 181, 0, 117, 42, 27, 4, 8, 184, 1, 106, 153, 0, 17, 28, 3, 16, 10, 184, 1, 106]
abbrev dktX4_gales_0 : List UInt8 := dkwX4_gales_0 ++ dktX4_gales_1
theorem dksX4_gales_0 : cX4_gales.data.toList.drop 0 = dktX4_gales_0 := by decide +kernel
theorem dksX4_gales_1 : cX4_gales.data.toList.drop 22 = dktX4_gales_1 := dk_seg dksX4_gales_0 22 rfl rfl
theorem dksX4_gales_2 : cX4_gales.data.toList.drop 46 = dktX4_gales_2 := dk_seg dksX4_gales_1 24 rfl rfl
theorem dksX4_gales_3 : cX4_gales.data.toList.drop 70 = dktX4_gales_3 := dk_seg dksX4_gales_2 24 rfl rfl
theorem dksX4_gales_4 : cX4_gales.data.toList.drop 94 = dktX4_gales_4 := dk_seg dksX4_gales_3 24 rfl rfl
theorem dksX4_gales_5 : cX4_gales.data.toList.drop 118 = dktX4_gales_5 := dk_seg dksX4_gales_4 24 rfl rfl
theorem dksX4_gales_6 : cX4_gales.data.toList.drop 142 = dktX4_gales_6 := dk_seg dksX4_gales_5 24 rfl rfl
theorem dksX4_gales_7 : cX4_gales.data.toList.drop 164 = dktX4_gales_7 := dk_seg dksX4_gales_6 22 rfl rfl
theorem dksX4_gales_8 : cX4_gales.data.toList.drop 186 = dktX4_gales_8 := dk_seg dksX4_gales_7 22 rfl rfl
theorem dX4_gales_0 : decode cX4_gales 0 = .ok (.aload_n 0, 1) := dk_42 (dk_at dksX4_gales_0 0 rfl rfl)
theorem dX4_gales_1 : decode cX4_gales 1 = .ok (.iconst 0, 1) := dk_3 (dk_at dksX4_gales_0 1 rfl rfl)
theorem dX4_gales_2 : decode cX4_gales 2 = .ok (.putfield 117, 3) := dk_181 0 117 (dk_at dksX4_gales_0 2 rfl rfl)
theorem dX4_gales_5 : decode cX4_gales 5 = .ok (.aload_n 0, 1) := dk_42 (dk_at dksX4_gales_0 5 rfl rfl)
theorem dX4_gales_6 : decode cX4_gales 6 = .ok (.iload_n 1, 1) := dk_27 (dk_at dksX4_gales_0 6 rfl rfl)
theorem dX4_gales_7 : decode cX4_gales 7 = .ok (.iconst 1, 1) := dk_4 (dk_at dksX4_gales_0 7 rfl rfl)
theorem dX4_gales_8 : decode cX4_gales 8 = .ok (.iconst 5, 1) := dk_8 (dk_at dksX4_gales_0 8 rfl rfl)
theorem dX4_gales_9 : decode cX4_gales 9 = .ok (.invokestatic 362, 3) := dk_184 1 106 (dk_at dksX4_gales_0 9 rfl rfl)
theorem dX4_gales_12 : decode cX4_gales 12 = .ok (.ifCond .eq 17, 3) := dk_153 0 17 (dk_at dksX4_gales_0 12 rfl rfl)
theorem dX4_gales_15 : decode cX4_gales 15 = .ok (.iload_n 2, 1) := dk_28 (dk_at dksX4_gales_0 15 rfl rfl)
theorem dX4_gales_16 : decode cX4_gales 16 = .ok (.iconst 0, 1) := dk_3 (dk_at dksX4_gales_0 16 rfl rfl)
theorem dX4_gales_17 : decode cX4_gales 17 = .ok (.bipush 10, 2) := dk_16 10 (dk_at dksX4_gales_0 17 rfl rfl)
theorem dX4_gales_19 : decode cX4_gales 19 = .ok (.invokestatic 362, 3) := dk_184 1 106 (dk_at dksX4_gales_0 19 rfl rfl)
theorem dX4_gales_22 : decode cX4_gales 22 = .ok (.ifCond .eq 7, 3) := dk_153 0 7 (dk_at dksX4_gales_1 0 rfl rfl)
theorem dX4_gales_25 : decode cX4_gales 25 = .ok (.iconst 1, 1) := dk_4 (dk_at dksX4_gales_1 3 rfl rfl)
theorem dX4_gales_26 : decode cX4_gales 26 = .ok (.goto 4, 3) := dk_167 0 4 (dk_at dksX4_gales_1 4 rfl rfl)
theorem dX4_gales_29 : decode cX4_gales 29 = .ok (.iconst 0, 1) := dk_3 (dk_at dksX4_gales_1 7 rfl rfl)
theorem dX4_gales_30 : decode cX4_gales 30 = .ok (.iconst 1, 1) := dk_4 (dk_at dksX4_gales_1 8 rfl rfl)
theorem dX4_gales_31 : decode cX4_gales 31 = .ok (.invokevirtual 277, 3) := dk_182 1 21 (dk_at dksX4_gales_1 9 rfl rfl)
theorem dX4_gales_34 : decode cX4_gales 34 = .ok (.ifCond .ne 5, 3) := dk_154 0 5 (dk_at dksX4_gales_1 12 rfl rfl)
theorem dX4_gales_37 : decode cX4_gales 37 = .ok (.iconst 0, 1) := dk_3 (dk_at dksX4_gales_1 15 rfl rfl)
theorem dX4_gales_38 : decode cX4_gales 38 = .ok (.ireturn, 1) := dk_172 (dk_at dksX4_gales_1 16 rfl rfl)
theorem dX4_gales_39 : decode cX4_gales 39 = .ok (.iconst 0, 1) := dk_3 (dk_at dksX4_gales_1 17 rfl rfl)
theorem dX4_gales_40 : decode cX4_gales 40 = .ok (.istore_n 3, 1) := dk_62 (dk_at dksX4_gales_1 18 rfl rfl)
theorem dX4_gales_41 : decode cX4_gales 41 = .ok (.iconst 0, 1) := dk_3 (dk_at dksX4_gales_1 19 rfl rfl)
theorem dX4_gales_42 : decode cX4_gales 42 = .ok (.istore 4, 2) := dk_54 4 (dk_at dksX4_gales_1 20 rfl rfl)
theorem dX4_gales_44 : decode cX4_gales 44 = .ok (.iload 4, 2) := dk_21 4 (dk_at dksX4_gales_1 22 rfl rfl)
theorem dX4_gales_46 : decode cX4_gales 46 = .ok (.iconst 1, 1) := dk_4 (dk_at dksX4_gales_2 0 rfl rfl)
theorem dX4_gales_47 : decode cX4_gales 47 = .ok (.iload_n 1, 1) := dk_27 (dk_at dksX4_gales_2 1 rfl rfl)
theorem dX4_gales_48 : decode cX4_gales 48 = .ok (.ishl, 1) := dk_120 (dk_at dksX4_gales_2 2 rfl rfl)
theorem dX4_gales_49 : decode cX4_gales 49 = .ok (.if_icmp .ge 143, 3) := dk_162 0 143 (dk_at dksX4_gales_2 3 rfl rfl)
theorem dX4_gales_52 : decode cX4_gales 52 = .ok (.iconst 1, 1) := dk_4 (dk_at dksX4_gales_2 6 rfl rfl)
theorem dX4_gales_53 : decode cX4_gales 53 = .ok (.istore 5, 2) := dk_54 5 (dk_at dksX4_gales_2 7 rfl rfl)
theorem dX4_gales_55 : decode cX4_gales 55 = .ok (.aload_n 0, 1) := dk_42 (dk_at dksX4_gales_2 9 rfl rfl)
theorem dX4_gales_56 : decode cX4_gales 56 = .ok (.invokevirtual 390, 3) := dk_182 1 134 (dk_at dksX4_gales_2 10 rfl rfl)
theorem dX4_gales_59 : decode cX4_gales 59 = .ok (.iconst 0, 1) := dk_3 (dk_at dksX4_gales_2 13 rfl rfl)
theorem dX4_gales_60 : decode cX4_gales 60 = .ok (.istore 6, 2) := dk_54 6 (dk_at dksX4_gales_2 14 rfl rfl)
theorem dX4_gales_62 : decode cX4_gales 62 = .ok (.iload 6, 2) := dk_21 6 (dk_at dksX4_gales_2 16 rfl rfl)
theorem dX4_gales_64 : decode cX4_gales 64 = .ok (.iload_n 1, 1) := dk_27 (dk_at dksX4_gales_2 18 rfl rfl)
theorem dX4_gales_65 : decode cX4_gales 65 = .ok (.if_icmp .ge 95, 3) := dk_162 0 95 (dk_at dksX4_gales_2 19 rfl rfl)
theorem dX4_gales_68 : decode cX4_gales 68 = .ok (.iload 4, 2) := dk_21 4 (dk_at dksX4_gales_2 22 rfl rfl)
theorem dX4_gales_70 : decode cX4_gales 70 = .ok (.iload 6, 2) := dk_21 6 (dk_at dksX4_gales_3 0 rfl rfl)
theorem dX4_gales_72 : decode cX4_gales 72 = .ok (.ishr, 1) := dk_122 (dk_at dksX4_gales_3 2 rfl rfl)
theorem dX4_gales_73 : decode cX4_gales 73 = .ok (.iconst 1, 1) := dk_4 (dk_at dksX4_gales_3 3 rfl rfl)
theorem dX4_gales_74 : decode cX4_gales 74 = .ok (.iand, 1) := dk_126 (dk_at dksX4_gales_3 4 rfl rfl)
theorem dX4_gales_75 : decode cX4_gales 75 = .ok (.iconst 1, 1) := dk_4 (dk_at dksX4_gales_3 5 rfl rfl)
theorem dX4_gales_76 : decode cX4_gales 76 = .ok (.if_icmp .ne 7, 3) := dk_160 0 7 (dk_at dksX4_gales_3 6 rfl rfl)
theorem dX4_gales_79 : decode cX4_gales 79 = .ok (.iconst 1, 1) := dk_4 (dk_at dksX4_gales_3 9 rfl rfl)
theorem dX4_gales_80 : decode cX4_gales 80 = .ok (.goto 4, 3) := dk_167 0 4 (dk_at dksX4_gales_3 10 rfl rfl)
theorem dX4_gales_83 : decode cX4_gales 83 = .ok (.iconst 0, 1) := dk_3 (dk_at dksX4_gales_3 13 rfl rfl)
theorem dX4_gales_84 : decode cX4_gales 84 = .ok (.istore 7, 2) := dk_54 7 (dk_at dksX4_gales_3 14 rfl rfl)
theorem dX4_gales_86 : decode cX4_gales 86 = .ok (.iload 5, 2) := dk_21 5 (dk_at dksX4_gales_3 16 rfl rfl)
theorem dX4_gales_88 : decode cX4_gales 88 = .ok (.iload 7, 2) := dk_21 7 (dk_at dksX4_gales_3 18 rfl rfl)
theorem dX4_gales_90 : decode cX4_gales 90 = .ok (.ifCond .eq 7, 3) := dk_153 0 7 (dk_at dksX4_gales_3 20 rfl rfl)
theorem dX4_gales_93 : decode cX4_gales 93 = .ok (.iload_n 2, 1) := dk_28 (dk_at dksX4_gales_3 23 rfl rfl)
theorem dX4_gales_94 : decode cX4_gales 94 = .ok (.goto 7, 3) := dk_167 0 7 (dk_at dksX4_gales_4 0 rfl rfl)
theorem dX4_gales_97 : decode cX4_gales 97 = .ok (.bipush 10, 2) := dk_16 10 (dk_at dksX4_gales_4 3 rfl rfl)
theorem dX4_gales_99 : decode cX4_gales 99 = .ok (.iload_n 2, 1) := dk_28 (dk_at dksX4_gales_4 5 rfl rfl)
theorem dX4_gales_100 : decode cX4_gales 100 = .ok (.isub, 1) := dk_100 (dk_at dksX4_gales_4 6 rfl rfl)
theorem dX4_gales_101 : decode cX4_gales 101 = .ok (.imul, 1) := dk_104 (dk_at dksX4_gales_4 7 rfl rfl)
theorem dX4_gales_102 : decode cX4_gales 102 = .ok (.istore 5, 2) := dk_54 5 (dk_at dksX4_gales_4 8 rfl rfl)
theorem dX4_gales_104 : decode cX4_gales 104 = .ok (.iconst 0, 1) := dk_3 (dk_at dksX4_gales_4 10 rfl rfl)
theorem dX4_gales_105 : decode cX4_gales 105 = .ok (.istore 8, 2) := dk_54 8 (dk_at dksX4_gales_4 11 rfl rfl)
theorem dX4_gales_107 : decode cX4_gales 107 = .ok (.iload 8, 2) := dk_21 8 (dk_at dksX4_gales_4 13 rfl rfl)
theorem dX4_gales_109 : decode cX4_gales 109 = .ok (.aload_n 0, 1) := dk_42 (dk_at dksX4_gales_4 15 rfl rfl)
theorem dX4_gales_110 : decode cX4_gales 110 = .ok (.getfield 7, 3) := dk_180 0 7 (dk_at dksX4_gales_4 16 rfl rfl)
theorem dX4_gales_113 : decode cX4_gales 113 = .ok (.if_icmp .ge 35, 3) := dk_162 0 35 (dk_at dksX4_gales_4 19 rfl rfl)
theorem dX4_gales_116 : decode cX4_gales 116 = .ok (.iload 7, 2) := dk_21 7 (dk_at dksX4_gales_4 22 rfl rfl)
theorem dX4_gales_118 : decode cX4_gales 118 = .ok (.ifCond .eq 30, 3) := dk_153 0 30 (dk_at dksX4_gales_5 0 rfl rfl)
theorem dX4_gales_121 : decode cX4_gales 121 = .ok (.aload_n 0, 1) := dk_42 (dk_at dksX4_gales_5 3 rfl rfl)
theorem dX4_gales_122 : decode cX4_gales 122 = .ok (.bipush 49, 2) := dk_16 49 (dk_at dksX4_gales_5 4 rfl rfl)
theorem dX4_gales_124 : decode cX4_gales 124 = .ok (.iload 8, 2) := dk_21 8 (dk_at dksX4_gales_5 6 rfl rfl)
theorem dX4_gales_126 : decode cX4_gales 126 = .ok (.invokevirtual 326, 3) := dk_182 1 70 (dk_at dksX4_gales_5 8 rfl rfl)
theorem dX4_gales_129 : decode cX4_gales 129 = .ok (.ifCond .ne 13, 3) := dk_154 0 13 (dk_at dksX4_gales_5 11 rfl rfl)
theorem dX4_gales_132 : decode cX4_gales 132 = .ok (.aload_n 0, 1) := dk_42 (dk_at dksX4_gales_5 14 rfl rfl)
theorem dX4_gales_133 : decode cX4_gales 133 = .ok (.bipush 49, 2) := dk_16 49 (dk_at dksX4_gales_5 15 rfl rfl)
theorem dX4_gales_135 : decode cX4_gales 135 = .ok (.iload 8, 2) := dk_21 8 (dk_at dksX4_gales_5 17 rfl rfl)
theorem dX4_gales_137 : decode cX4_gales 137 = .ok (.bipush 15, 2) := dk_16 15 (dk_at dksX4_gales_5 19 rfl rfl)
theorem dX4_gales_139 : decode cX4_gales 139 = .ok (.invokevirtual 339, 3) := dk_182 1 83 (dk_at dksX4_gales_5 21 rfl rfl)
theorem dX4_gales_142 : decode cX4_gales 142 = .ok (.iinc 8 1, 3) := dk_132 8 1 (dk_at dksX4_gales_6 0 rfl rfl)
theorem dX4_gales_145 : decode cX4_gales 145 = .ok (.goto (-38), 3) := dk_167 255 218 (dk_at dksX4_gales_6 3 rfl rfl)
theorem dX4_gales_148 : decode cX4_gales 148 = .ok (.aload_n 0, 1) := dk_42 (dk_at dksX4_gales_6 6 rfl rfl)
theorem dX4_gales_149 : decode cX4_gales 149 = .ok (.bipush 49, 2) := dk_16 49 (dk_at dksX4_gales_6 7 rfl rfl)
theorem dX4_gales_151 : decode cX4_gales 151 = .ok (.invokevirtual 359, 3) := dk_182 1 103 (dk_at dksX4_gales_6 9 rfl rfl)
theorem dX4_gales_154 : decode cX4_gales 154 = .ok (.iinc 6 1, 3) := dk_132 6 1 (dk_at dksX4_gales_6 12 rfl rfl)
theorem dX4_gales_157 : decode cX4_gales 157 = .ok (.goto (-95), 3) := dk_167 255 161 (dk_at dksX4_gales_6 15 rfl rfl)
theorem dX4_gales_160 : decode cX4_gales 160 = .ok (.iload_n 3, 1) := dk_29 (dk_at dksX4_gales_6 18 rfl rfl)
theorem dX4_gales_161 : decode cX4_gales 161 = .ok (.aload_n 0, 1) := dk_42 (dk_at dksX4_gales_6 19 rfl rfl)
theorem dX4_gales_162 : decode cX4_gales 162 = .ok (.bipush 49, 2) := dk_16 49 (dk_at dksX4_gales_6 20 rfl rfl)
theorem dX4_gales_164 : decode cX4_gales 164 = .ok (.invokevirtual 366, 3) := dk_182 1 110 (dk_at dksX4_gales_7 0 rfl rfl)
theorem dX4_gales_167 : decode cX4_gales 167 = .ok (.aload_n 0, 1) := dk_42 (dk_at dksX4_gales_7 3 rfl rfl)
theorem dX4_gales_168 : decode cX4_gales 168 = .ok (.iconst 0, 1) := dk_3 (dk_at dksX4_gales_7 4 rfl rfl)
theorem dX4_gales_169 : decode cX4_gales 169 = .ok (.invokevirtual 366, 3) := dk_182 1 110 (dk_at dksX4_gales_7 5 rfl rfl)
theorem dX4_gales_172 : decode cX4_gales 172 = .ok (.iconst (-1), 1) := dk_2 (dk_at dksX4_gales_7 8 rfl rfl)
theorem dX4_gales_173 : decode cX4_gales 173 = .ok (.ixor, 1) := dk_130 (dk_at dksX4_gales_7 9 rfl rfl)
theorem dX4_gales_174 : decode cX4_gales 174 = .ok (.iand, 1) := dk_126 (dk_at dksX4_gales_7 10 rfl rfl)
theorem dX4_gales_175 : decode cX4_gales 175 = .ok (.ifCond .eq 8, 3) := dk_153 0 8 (dk_at dksX4_gales_7 11 rfl rfl)
theorem dX4_gales_178 : decode cX4_gales 178 = .ok (.iload 5, 2) := dk_21 5 (dk_at dksX4_gales_7 14 rfl rfl)
theorem dX4_gales_180 : decode cX4_gales 180 = .ok (.goto 4, 3) := dk_167 0 4 (dk_at dksX4_gales_7 16 rfl rfl)
theorem dX4_gales_183 : decode cX4_gales 183 = .ok (.iconst 0, 1) := dk_3 (dk_at dksX4_gales_7 19 rfl rfl)
theorem dX4_gales_184 : decode cX4_gales 184 = .ok (.iadd, 1) := dk_96 (dk_at dksX4_gales_7 20 rfl rfl)
theorem dX4_gales_185 : decode cX4_gales 185 = .ok (.istore_n 3, 1) := dk_62 (dk_at dksX4_gales_7 21 rfl rfl)
theorem dX4_gales_186 : decode cX4_gales 186 = .ok (.iinc 4 1, 3) := dk_132 4 1 (dk_at dksX4_gales_8 0 rfl rfl)
theorem dX4_gales_189 : decode cX4_gales 189 = .ok (.goto (-145), 3) := dk_167 255 111 (dk_at dksX4_gales_8 3 rfl rfl)
theorem dX4_gales_192 : decode cX4_gales 192 = .ok (.iload_n 3, 1) := dk_29 (dk_at dksX4_gales_8 6 rfl rfl)
theorem dX4_gales_193 : decode cX4_gales 193 = .ok (.ireturn, 1) := dk_172 (dk_at dksX4_gales_8 7 rfl rfl)
abbrev cX4_plays : ByteArray := prog_12_method_105_code
def yX4_plays : MethodName := ⟨RX4, "plays", "(II)V"⟩
def dkwX4_plays_0 : List UInt8 := [28, 4, 160, 0, 10, 42, 16, 49, 27, 182, 1, 100, 42, 16, 49, 27, 182, 1, 96, 177]
abbrev dktX4_plays_0 : List UInt8 := dkwX4_plays_0 ++ []
theorem dksX4_plays_0 : cX4_plays.data.toList.drop 0 = dktX4_plays_0 := by decide +kernel
theorem dX4_plays_0 : decode cX4_plays 0 = .ok (.iload_n 2, 1) := dk_28 (dk_at dksX4_plays_0 0 rfl rfl)
theorem dX4_plays_1 : decode cX4_plays 1 = .ok (.iconst 1, 1) := dk_4 (dk_at dksX4_plays_0 1 rfl rfl)
theorem dX4_plays_2 : decode cX4_plays 2 = .ok (.if_icmp .ne 10, 3) := dk_160 0 10 (dk_at dksX4_plays_0 2 rfl rfl)
theorem dX4_plays_5 : decode cX4_plays 5 = .ok (.aload_n 0, 1) := dk_42 (dk_at dksX4_plays_0 5 rfl rfl)
theorem dX4_plays_6 : decode cX4_plays 6 = .ok (.bipush 49, 2) := dk_16 49 (dk_at dksX4_plays_0 6 rfl rfl)
theorem dX4_plays_8 : decode cX4_plays 8 = .ok (.iload_n 1, 1) := dk_27 (dk_at dksX4_plays_0 8 rfl rfl)
theorem dX4_plays_9 : decode cX4_plays 9 = .ok (.invokevirtual 356, 3) := dk_182 1 100 (dk_at dksX4_plays_0 9 rfl rfl)
theorem dX4_plays_12 : decode cX4_plays 12 = .ok (.aload_n 0, 1) := dk_42 (dk_at dksX4_plays_0 12 rfl rfl)
theorem dX4_plays_13 : decode cX4_plays 13 = .ok (.bipush 49, 2) := dk_16 49 (dk_at dksX4_plays_0 13 rfl rfl)
theorem dX4_plays_15 : decode cX4_plays 15 = .ok (.iload_n 1, 1) := dk_27 (dk_at dksX4_plays_0 15 rfl rfl)
theorem dX4_plays_16 : decode cX4_plays 16 = .ok (.invokevirtual 352, 3) := dk_182 1 96 (dk_at dksX4_plays_0 16 rfl rfl)
theorem dX4_plays_19 : decode cX4_plays 19 = .ok (.return_, 1) := dk_177 (dk_at dksX4_plays_0 19 rfl rfl)
abbrev cX4_gains : ByteArray := prog_12_method_106_code
def yX4_gains : MethodName := ⟨RX4, "gains", "(IIII)I"⟩
def dkwX4_gains_2 : List UInt8 := [16, 37, 27, 96, 46, 96, 46, 16, 10, 108, 29, 100, 172]
abbrev dktX4_gains_2 : List UInt8 := dkwX4_gains_2 ++ []
def dkwX4_gains_1 : List UInt8 := [164, 0, 9, 42, 27, 29, 182, 1, 170, 42, 8, 182, 1, 137, 42, 180, 0, 66, 16, 62, 42, 180, 0, 66]
abbrev dktX4_gains_1 : List UInt8 := dkwX4_gains_1 ++ dktX4_gains_2
def dkwX4_gains_0 : List UInt8 := [42, 182, 1, 134, 27, 28, 162, 0, 9, 42, 27, 29, 182, 1, 170, 42, 28, 21, 4, 182, 1, 170, 27, 28]
abbrev dktX4_gains_0 : List UInt8 := dkwX4_gains_0 ++ dktX4_gains_1
theorem dksX4_gains_0 : cX4_gains.data.toList.drop 0 = dktX4_gains_0 := by decide +kernel
theorem dksX4_gains_1 : cX4_gains.data.toList.drop 24 = dktX4_gains_1 := dk_seg dksX4_gains_0 24 rfl rfl
theorem dksX4_gains_2 : cX4_gains.data.toList.drop 48 = dktX4_gains_2 := dk_seg dksX4_gains_1 24 rfl rfl
theorem dX4_gains_0 : decode cX4_gains 0 = .ok (.aload_n 0, 1) := dk_42 (dk_at dksX4_gains_0 0 rfl rfl)
theorem dX4_gains_1 : decode cX4_gains 1 = .ok (.invokevirtual 390, 3) := dk_182 1 134 (dk_at dksX4_gains_0 1 rfl rfl)
theorem dX4_gains_4 : decode cX4_gains 4 = .ok (.iload_n 1, 1) := dk_27 (dk_at dksX4_gains_0 4 rfl rfl)
theorem dX4_gains_5 : decode cX4_gains 5 = .ok (.iload_n 2, 1) := dk_28 (dk_at dksX4_gains_0 5 rfl rfl)
theorem dX4_gains_6 : decode cX4_gains 6 = .ok (.if_icmp .ge 9, 3) := dk_162 0 9 (dk_at dksX4_gains_0 6 rfl rfl)
theorem dX4_gains_9 : decode cX4_gains 9 = .ok (.aload_n 0, 1) := dk_42 (dk_at dksX4_gains_0 9 rfl rfl)
theorem dX4_gains_10 : decode cX4_gains 10 = .ok (.iload_n 1, 1) := dk_27 (dk_at dksX4_gains_0 10 rfl rfl)
theorem dX4_gains_11 : decode cX4_gains 11 = .ok (.iload_n 3, 1) := dk_29 (dk_at dksX4_gains_0 11 rfl rfl)
theorem dX4_gains_12 : decode cX4_gains 12 = .ok (.invokevirtual 426, 3) := dk_182 1 170 (dk_at dksX4_gains_0 12 rfl rfl)
theorem dX4_gains_15 : decode cX4_gains 15 = .ok (.aload_n 0, 1) := dk_42 (dk_at dksX4_gains_0 15 rfl rfl)
theorem dX4_gains_16 : decode cX4_gains 16 = .ok (.iload_n 2, 1) := dk_28 (dk_at dksX4_gains_0 16 rfl rfl)
theorem dX4_gains_17 : decode cX4_gains 17 = .ok (.iload 4, 2) := dk_21 4 (dk_at dksX4_gains_0 17 rfl rfl)
theorem dX4_gains_19 : decode cX4_gains 19 = .ok (.invokevirtual 426, 3) := dk_182 1 170 (dk_at dksX4_gains_0 19 rfl rfl)
theorem dX4_gains_22 : decode cX4_gains 22 = .ok (.iload_n 1, 1) := dk_27 (dk_at dksX4_gains_0 22 rfl rfl)
theorem dX4_gains_23 : decode cX4_gains 23 = .ok (.iload_n 2, 1) := dk_28 (dk_at dksX4_gains_0 23 rfl rfl)
theorem dX4_gains_24 : decode cX4_gains 24 = .ok (.if_icmp .le 9, 3) := dk_164 0 9 (dk_at dksX4_gains_1 0 rfl rfl)
theorem dX4_gains_27 : decode cX4_gains 27 = .ok (.aload_n 0, 1) := dk_42 (dk_at dksX4_gains_1 3 rfl rfl)
theorem dX4_gains_28 : decode cX4_gains 28 = .ok (.iload_n 1, 1) := dk_27 (dk_at dksX4_gains_1 4 rfl rfl)
theorem dX4_gains_29 : decode cX4_gains 29 = .ok (.iload_n 3, 1) := dk_29 (dk_at dksX4_gains_1 5 rfl rfl)
theorem dX4_gains_30 : decode cX4_gains 30 = .ok (.invokevirtual 426, 3) := dk_182 1 170 (dk_at dksX4_gains_1 6 rfl rfl)
theorem dX4_gains_33 : decode cX4_gains 33 = .ok (.aload_n 0, 1) := dk_42 (dk_at dksX4_gains_1 9 rfl rfl)
theorem dX4_gains_34 : decode cX4_gains 34 = .ok (.iconst 5, 1) := dk_8 (dk_at dksX4_gains_1 10 rfl rfl)
theorem dX4_gains_35 : decode cX4_gains 35 = .ok (.invokevirtual 393, 3) := dk_182 1 137 (dk_at dksX4_gains_1 11 rfl rfl)
theorem dX4_gains_38 : decode cX4_gains 38 = .ok (.aload_n 0, 1) := dk_42 (dk_at dksX4_gains_1 14 rfl rfl)
theorem dX4_gains_39 : decode cX4_gains 39 = .ok (.getfield 66, 3) := dk_180 0 66 (dk_at dksX4_gains_1 15 rfl rfl)
theorem dX4_gains_42 : decode cX4_gains 42 = .ok (.bipush 62, 2) := dk_16 62 (dk_at dksX4_gains_1 18 rfl rfl)
theorem dX4_gains_44 : decode cX4_gains 44 = .ok (.aload_n 0, 1) := dk_42 (dk_at dksX4_gains_1 20 rfl rfl)
theorem dX4_gains_45 : decode cX4_gains 45 = .ok (.getfield 66, 3) := dk_180 0 66 (dk_at dksX4_gains_1 21 rfl rfl)
theorem dX4_gains_48 : decode cX4_gains 48 = .ok (.bipush 37, 2) := dk_16 37 (dk_at dksX4_gains_2 0 rfl rfl)
theorem dX4_gains_50 : decode cX4_gains 50 = .ok (.iload_n 1, 1) := dk_27 (dk_at dksX4_gains_2 2 rfl rfl)
theorem dX4_gains_51 : decode cX4_gains 51 = .ok (.iadd, 1) := dk_96 (dk_at dksX4_gains_2 3 rfl rfl)
theorem dX4_gains_52 : decode cX4_gains 52 = .ok (.iaload, 1) := dk_46 (dk_at dksX4_gains_2 4 rfl rfl)
theorem dX4_gains_53 : decode cX4_gains 53 = .ok (.iadd, 1) := dk_96 (dk_at dksX4_gains_2 5 rfl rfl)
theorem dX4_gains_54 : decode cX4_gains 54 = .ok (.iaload, 1) := dk_46 (dk_at dksX4_gains_2 6 rfl rfl)
theorem dX4_gains_55 : decode cX4_gains 55 = .ok (.bipush 10, 2) := dk_16 10 (dk_at dksX4_gains_2 7 rfl rfl)
theorem dX4_gains_57 : decode cX4_gains 57 = .ok (.idiv, 1) := dk_108 (dk_at dksX4_gains_2 9 rfl rfl)
theorem dX4_gains_58 : decode cX4_gains 58 = .ok (.iload_n 3, 1) := dk_29 (dk_at dksX4_gains_2 10 rfl rfl)
theorem dX4_gains_59 : decode cX4_gains 59 = .ok (.isub, 1) := dk_100 (dk_at dksX4_gains_2 11 rfl rfl)
theorem dX4_gains_60 : decode cX4_gains 60 = .ok (.ireturn, 1) := dk_172 (dk_at dksX4_gains_2 12 rfl rfl)
abbrev cX4_game : ByteArray := prog_12_method_107_code
def yX4_game : MethodName := ⟨RX4, "game", "(III)I"⟩
def dkwX4_game_7 : List UInt8 := [21, 5, 172]
abbrev dktX4_game_7 : List UInt8 := dkwX4_game_7 ++ []
def dkwX4_game_6 : List UInt8 := [21, 7, 104, 21, 8, 96, 54, 5, 132, 6, 1, 167, 255, 163, 29, 154, 0, 8, 21, 4, 167, 0, 5]
abbrev dktX4_game_6 : List UInt8 := dkwX4_game_6 ++ dktX4_game_7
def dkwX4_game_5 : List UInt8 := [21, 8, 21, 7, 182, 1, 173, 164, 0, 6, 167, 0, 22, 132, 4, 1, 21, 5, 2, 160, 0, 13, 16, 10]
abbrev dktX4_game_5 : List UInt8 := dkwX4_game_5 ++ dktX4_game_6
def dkwX4_game_4 : List UInt8 := [21, 8, 182, 1, 173, 163, 0, 50, 42, 28, 27, 4, 21, 8, 100, 21, 7, 182, 1, 173, 42, 28, 27]
abbrev dktX4_game_4 : List UInt8 := dkwX4_game_4 ++ dktX4_game_5
def dkwX4_game_3 : List UInt8 := [21, 6, 5, 112, 54, 8, 42, 27, 28, 4, 21, 7, 100, 21, 8, 182, 1, 173, 42, 27, 28, 21, 7]
abbrev dktX4_game_3 : List UInt8 := dkwX4_game_3 ++ dktX4_game_4
def dkwX4_game_2 : List UInt8 := [3, 172, 3, 54, 4, 2, 54, 5, 3, 54, 6, 21, 6, 7, 162, 0, 93, 21, 6, 5, 108, 54, 7]
abbrev dktX4_game_2 : List UInt8 := dkwX4_game_2 ++ dktX4_game_3
def dkwX4_game_1 : List UInt8 := [182, 1, 122, 153, 0, 21, 42, 27, 28, 159, 0, 7, 4, 167, 0, 4, 3, 5, 182, 1, 21, 154, 0, 5]
abbrev dktX4_game_1 : List UInt8 := dkwX4_game_1 ++ dktX4_game_2
def dkwX4_game_0 : List UInt8 := [42, 3, 181, 0, 117, 42, 27, 182, 1, 125, 153, 0, 38, 42, 28, 182, 1, 125, 153, 0, 30, 42, 29, 4]
abbrev dktX4_game_0 : List UInt8 := dkwX4_game_0 ++ dktX4_game_1
theorem dksX4_game_0 : cX4_game.data.toList.drop 0 = dktX4_game_0 := by decide +kernel
theorem dksX4_game_1 : cX4_game.data.toList.drop 24 = dktX4_game_1 := dk_seg dksX4_game_0 24 rfl rfl
theorem dksX4_game_2 : cX4_game.data.toList.drop 48 = dktX4_game_2 := dk_seg dksX4_game_1 24 rfl rfl
theorem dksX4_game_3 : cX4_game.data.toList.drop 71 = dktX4_game_3 := dk_seg dksX4_game_2 23 rfl rfl
theorem dksX4_game_4 : cX4_game.data.toList.drop 94 = dktX4_game_4 := dk_seg dksX4_game_3 23 rfl rfl
theorem dksX4_game_5 : cX4_game.data.toList.drop 117 = dktX4_game_5 := dk_seg dksX4_game_4 23 rfl rfl
theorem dksX4_game_6 : cX4_game.data.toList.drop 141 = dktX4_game_6 := dk_seg dksX4_game_5 24 rfl rfl
theorem dksX4_game_7 : cX4_game.data.toList.drop 164 = dktX4_game_7 := dk_seg dksX4_game_6 23 rfl rfl
theorem dX4_game_0 : decode cX4_game 0 = .ok (.aload_n 0, 1) := dk_42 (dk_at dksX4_game_0 0 rfl rfl)
theorem dX4_game_1 : decode cX4_game 1 = .ok (.iconst 0, 1) := dk_3 (dk_at dksX4_game_0 1 rfl rfl)
theorem dX4_game_2 : decode cX4_game 2 = .ok (.putfield 117, 3) := dk_181 0 117 (dk_at dksX4_game_0 2 rfl rfl)
theorem dX4_game_5 : decode cX4_game 5 = .ok (.aload_n 0, 1) := dk_42 (dk_at dksX4_game_0 5 rfl rfl)
theorem dX4_game_6 : decode cX4_game 6 = .ok (.iload_n 1, 1) := dk_27 (dk_at dksX4_game_0 6 rfl rfl)
theorem dX4_game_7 : decode cX4_game 7 = .ok (.invokevirtual 381, 3) := dk_182 1 125 (dk_at dksX4_game_0 7 rfl rfl)
theorem dX4_game_10 : decode cX4_game 10 = .ok (.ifCond .eq 38, 3) := dk_153 0 38 (dk_at dksX4_game_0 10 rfl rfl)
theorem dX4_game_13 : decode cX4_game 13 = .ok (.aload_n 0, 1) := dk_42 (dk_at dksX4_game_0 13 rfl rfl)
theorem dX4_game_14 : decode cX4_game 14 = .ok (.iload_n 2, 1) := dk_28 (dk_at dksX4_game_0 14 rfl rfl)
theorem dX4_game_15 : decode cX4_game 15 = .ok (.invokevirtual 381, 3) := dk_182 1 125 (dk_at dksX4_game_0 15 rfl rfl)
theorem dX4_game_18 : decode cX4_game 18 = .ok (.ifCond .eq 30, 3) := dk_153 0 30 (dk_at dksX4_game_0 18 rfl rfl)
theorem dX4_game_21 : decode cX4_game 21 = .ok (.aload_n 0, 1) := dk_42 (dk_at dksX4_game_0 21 rfl rfl)
theorem dX4_game_22 : decode cX4_game 22 = .ok (.iload_n 3, 1) := dk_29 (dk_at dksX4_game_0 22 rfl rfl)
theorem dX4_game_23 : decode cX4_game 23 = .ok (.iconst 1, 1) := dk_4 (dk_at dksX4_game_0 23 rfl rfl)
theorem dX4_game_24 : decode cX4_game 24 = .ok (.invokevirtual 378, 3) := dk_182 1 122 (dk_at dksX4_game_1 0 rfl rfl)
theorem dX4_game_27 : decode cX4_game 27 = .ok (.ifCond .eq 21, 3) := dk_153 0 21 (dk_at dksX4_game_1 3 rfl rfl)
theorem dX4_game_30 : decode cX4_game 30 = .ok (.aload_n 0, 1) := dk_42 (dk_at dksX4_game_1 6 rfl rfl)
theorem dX4_game_31 : decode cX4_game 31 = .ok (.iload_n 1, 1) := dk_27 (dk_at dksX4_game_1 7 rfl rfl)
theorem dX4_game_32 : decode cX4_game 32 = .ok (.iload_n 2, 1) := dk_28 (dk_at dksX4_game_1 8 rfl rfl)
theorem dX4_game_33 : decode cX4_game 33 = .ok (.if_icmp .eq 7, 3) := dk_159 0 7 (dk_at dksX4_game_1 9 rfl rfl)
theorem dX4_game_36 : decode cX4_game 36 = .ok (.iconst 1, 1) := dk_4 (dk_at dksX4_game_1 12 rfl rfl)
theorem dX4_game_37 : decode cX4_game 37 = .ok (.goto 4, 3) := dk_167 0 4 (dk_at dksX4_game_1 13 rfl rfl)
theorem dX4_game_40 : decode cX4_game 40 = .ok (.iconst 0, 1) := dk_3 (dk_at dksX4_game_1 16 rfl rfl)
theorem dX4_game_41 : decode cX4_game 41 = .ok (.iconst 2, 1) := dk_5 (dk_at dksX4_game_1 17 rfl rfl)
theorem dX4_game_42 : decode cX4_game 42 = .ok (.invokevirtual 277, 3) := dk_182 1 21 (dk_at dksX4_game_1 18 rfl rfl)
theorem dX4_game_45 : decode cX4_game 45 = .ok (.ifCond .ne 5, 3) := dk_154 0 5 (dk_at dksX4_game_1 21 rfl rfl)
theorem dX4_game_48 : decode cX4_game 48 = .ok (.iconst 0, 1) := dk_3 (dk_at dksX4_game_2 0 rfl rfl)
theorem dX4_game_49 : decode cX4_game 49 = .ok (.ireturn, 1) := dk_172 (dk_at dksX4_game_2 1 rfl rfl)
theorem dX4_game_50 : decode cX4_game 50 = .ok (.iconst 0, 1) := dk_3 (dk_at dksX4_game_2 2 rfl rfl)
theorem dX4_game_51 : decode cX4_game 51 = .ok (.istore 4, 2) := dk_54 4 (dk_at dksX4_game_2 3 rfl rfl)
theorem dX4_game_53 : decode cX4_game 53 = .ok (.iconst (-1), 1) := dk_2 (dk_at dksX4_game_2 5 rfl rfl)
theorem dX4_game_54 : decode cX4_game 54 = .ok (.istore 5, 2) := dk_54 5 (dk_at dksX4_game_2 6 rfl rfl)
theorem dX4_game_56 : decode cX4_game 56 = .ok (.iconst 0, 1) := dk_3 (dk_at dksX4_game_2 8 rfl rfl)
theorem dX4_game_57 : decode cX4_game 57 = .ok (.istore 6, 2) := dk_54 6 (dk_at dksX4_game_2 9 rfl rfl)
theorem dX4_game_59 : decode cX4_game 59 = .ok (.iload 6, 2) := dk_21 6 (dk_at dksX4_game_2 11 rfl rfl)
theorem dX4_game_61 : decode cX4_game 61 = .ok (.iconst 4, 1) := dk_7 (dk_at dksX4_game_2 13 rfl rfl)
theorem dX4_game_62 : decode cX4_game 62 = .ok (.if_icmp .ge 93, 3) := dk_162 0 93 (dk_at dksX4_game_2 14 rfl rfl)
theorem dX4_game_65 : decode cX4_game 65 = .ok (.iload 6, 2) := dk_21 6 (dk_at dksX4_game_2 17 rfl rfl)
theorem dX4_game_67 : decode cX4_game 67 = .ok (.iconst 2, 1) := dk_5 (dk_at dksX4_game_2 19 rfl rfl)
theorem dX4_game_68 : decode cX4_game 68 = .ok (.idiv, 1) := dk_108 (dk_at dksX4_game_2 20 rfl rfl)
theorem dX4_game_69 : decode cX4_game 69 = .ok (.istore 7, 2) := dk_54 7 (dk_at dksX4_game_2 21 rfl rfl)
theorem dX4_game_71 : decode cX4_game 71 = .ok (.iload 6, 2) := dk_21 6 (dk_at dksX4_game_3 0 rfl rfl)
theorem dX4_game_73 : decode cX4_game 73 = .ok (.iconst 2, 1) := dk_5 (dk_at dksX4_game_3 2 rfl rfl)
theorem dX4_game_74 : decode cX4_game 74 = .ok (.irem, 1) := dk_112 (dk_at dksX4_game_3 3 rfl rfl)
theorem dX4_game_75 : decode cX4_game 75 = .ok (.istore 8, 2) := dk_54 8 (dk_at dksX4_game_3 4 rfl rfl)
theorem dX4_game_77 : decode cX4_game 77 = .ok (.aload_n 0, 1) := dk_42 (dk_at dksX4_game_3 6 rfl rfl)
theorem dX4_game_78 : decode cX4_game 78 = .ok (.iload_n 1, 1) := dk_27 (dk_at dksX4_game_3 7 rfl rfl)
theorem dX4_game_79 : decode cX4_game 79 = .ok (.iload_n 2, 1) := dk_28 (dk_at dksX4_game_3 8 rfl rfl)
theorem dX4_game_80 : decode cX4_game 80 = .ok (.iconst 1, 1) := dk_4 (dk_at dksX4_game_3 9 rfl rfl)
theorem dX4_game_81 : decode cX4_game 81 = .ok (.iload 7, 2) := dk_21 7 (dk_at dksX4_game_3 10 rfl rfl)
theorem dX4_game_83 : decode cX4_game 83 = .ok (.isub, 1) := dk_100 (dk_at dksX4_game_3 12 rfl rfl)
theorem dX4_game_84 : decode cX4_game 84 = .ok (.iload 8, 2) := dk_21 8 (dk_at dksX4_game_3 13 rfl rfl)
theorem dX4_game_86 : decode cX4_game 86 = .ok (.invokevirtual 429, 3) := dk_182 1 173 (dk_at dksX4_game_3 15 rfl rfl)
theorem dX4_game_89 : decode cX4_game 89 = .ok (.aload_n 0, 1) := dk_42 (dk_at dksX4_game_3 18 rfl rfl)
theorem dX4_game_90 : decode cX4_game 90 = .ok (.iload_n 1, 1) := dk_27 (dk_at dksX4_game_3 19 rfl rfl)
theorem dX4_game_91 : decode cX4_game 91 = .ok (.iload_n 2, 1) := dk_28 (dk_at dksX4_game_3 20 rfl rfl)
theorem dX4_game_92 : decode cX4_game 92 = .ok (.iload 7, 2) := dk_21 7 (dk_at dksX4_game_3 21 rfl rfl)
theorem dX4_game_94 : decode cX4_game 94 = .ok (.iload 8, 2) := dk_21 8 (dk_at dksX4_game_4 0 rfl rfl)
theorem dX4_game_96 : decode cX4_game 96 = .ok (.invokevirtual 429, 3) := dk_182 1 173 (dk_at dksX4_game_4 2 rfl rfl)
theorem dX4_game_99 : decode cX4_game 99 = .ok (.if_icmp .gt 50, 3) := dk_163 0 50 (dk_at dksX4_game_4 5 rfl rfl)
theorem dX4_game_102 : decode cX4_game 102 = .ok (.aload_n 0, 1) := dk_42 (dk_at dksX4_game_4 8 rfl rfl)
theorem dX4_game_103 : decode cX4_game 103 = .ok (.iload_n 2, 1) := dk_28 (dk_at dksX4_game_4 9 rfl rfl)
theorem dX4_game_104 : decode cX4_game 104 = .ok (.iload_n 1, 1) := dk_27 (dk_at dksX4_game_4 10 rfl rfl)
theorem dX4_game_105 : decode cX4_game 105 = .ok (.iconst 1, 1) := dk_4 (dk_at dksX4_game_4 11 rfl rfl)
theorem dX4_game_106 : decode cX4_game 106 = .ok (.iload 8, 2) := dk_21 8 (dk_at dksX4_game_4 12 rfl rfl)
theorem dX4_game_108 : decode cX4_game 108 = .ok (.isub, 1) := dk_100 (dk_at dksX4_game_4 14 rfl rfl)
theorem dX4_game_109 : decode cX4_game 109 = .ok (.iload 7, 2) := dk_21 7 (dk_at dksX4_game_4 15 rfl rfl)
theorem dX4_game_111 : decode cX4_game 111 = .ok (.invokevirtual 429, 3) := dk_182 1 173 (dk_at dksX4_game_4 17 rfl rfl)
theorem dX4_game_114 : decode cX4_game 114 = .ok (.aload_n 0, 1) := dk_42 (dk_at dksX4_game_4 20 rfl rfl)
theorem dX4_game_115 : decode cX4_game 115 = .ok (.iload_n 2, 1) := dk_28 (dk_at dksX4_game_4 21 rfl rfl)
theorem dX4_game_116 : decode cX4_game 116 = .ok (.iload_n 1, 1) := dk_27 (dk_at dksX4_game_4 22 rfl rfl)
theorem dX4_game_117 : decode cX4_game 117 = .ok (.iload 8, 2) := dk_21 8 (dk_at dksX4_game_5 0 rfl rfl)
theorem dX4_game_119 : decode cX4_game 119 = .ok (.iload 7, 2) := dk_21 7 (dk_at dksX4_game_5 2 rfl rfl)
theorem dX4_game_121 : decode cX4_game 121 = .ok (.invokevirtual 429, 3) := dk_182 1 173 (dk_at dksX4_game_5 4 rfl rfl)
theorem dX4_game_124 : decode cX4_game 124 = .ok (.if_icmp .le 6, 3) := dk_164 0 6 (dk_at dksX4_game_5 7 rfl rfl)
theorem dX4_game_127 : decode cX4_game 127 = .ok (.goto 22, 3) := dk_167 0 22 (dk_at dksX4_game_5 10 rfl rfl)
theorem dX4_game_130 : decode cX4_game 130 = .ok (.iinc 4 1, 3) := dk_132 4 1 (dk_at dksX4_game_5 13 rfl rfl)
theorem dX4_game_133 : decode cX4_game 133 = .ok (.iload 5, 2) := dk_21 5 (dk_at dksX4_game_5 16 rfl rfl)
theorem dX4_game_135 : decode cX4_game 135 = .ok (.iconst (-1), 1) := dk_2 (dk_at dksX4_game_5 18 rfl rfl)
theorem dX4_game_136 : decode cX4_game 136 = .ok (.if_icmp .ne 13, 3) := dk_160 0 13 (dk_at dksX4_game_5 19 rfl rfl)
theorem dX4_game_139 : decode cX4_game 139 = .ok (.bipush 10, 2) := dk_16 10 (dk_at dksX4_game_5 22 rfl rfl)
theorem dX4_game_141 : decode cX4_game 141 = .ok (.iload 7, 2) := dk_21 7 (dk_at dksX4_game_6 0 rfl rfl)
theorem dX4_game_143 : decode cX4_game 143 = .ok (.imul, 1) := dk_104 (dk_at dksX4_game_6 2 rfl rfl)
theorem dX4_game_144 : decode cX4_game 144 = .ok (.iload 8, 2) := dk_21 8 (dk_at dksX4_game_6 3 rfl rfl)
theorem dX4_game_146 : decode cX4_game 146 = .ok (.iadd, 1) := dk_96 (dk_at dksX4_game_6 5 rfl rfl)
theorem dX4_game_147 : decode cX4_game 147 = .ok (.istore 5, 2) := dk_54 5 (dk_at dksX4_game_6 6 rfl rfl)
theorem dX4_game_149 : decode cX4_game 149 = .ok (.iinc 6 1, 3) := dk_132 6 1 (dk_at dksX4_game_6 8 rfl rfl)
theorem dX4_game_152 : decode cX4_game 152 = .ok (.goto (-93), 3) := dk_167 255 163 (dk_at dksX4_game_6 11 rfl rfl)
theorem dX4_game_155 : decode cX4_game 155 = .ok (.iload_n 3, 1) := dk_29 (dk_at dksX4_game_6 14 rfl rfl)
theorem dX4_game_156 : decode cX4_game 156 = .ok (.ifCond .ne 8, 3) := dk_154 0 8 (dk_at dksX4_game_6 15 rfl rfl)
theorem dX4_game_159 : decode cX4_game 159 = .ok (.iload 4, 2) := dk_21 4 (dk_at dksX4_game_6 18 rfl rfl)
theorem dX4_game_161 : decode cX4_game 161 = .ok (.goto 5, 3) := dk_167 0 5 (dk_at dksX4_game_6 20 rfl rfl)
theorem dX4_game_164 : decode cX4_game 164 = .ok (.iload 5, 2) := dk_21 5 (dk_at dksX4_game_7 0 rfl rfl)
theorem dX4_game_166 : decode cX4_game 166 = .ok (.ireturn, 1) := dk_172 (dk_at dksX4_game_7 2 rfl rfl)
abbrev cX4_draw : ByteArray := prog_12_method_108_code
def yX4_draw : MethodName := ⟨RX4, "draw", "(I)I"⟩
def dkwX4_draw_1 : List UInt8 := [17, 127, 255, 126, 27, 112, 172]
abbrev dktX4_draw_1 : List UInt8 := dkwX4_draw_1 ++ []
def dkwX4_draw_0 : List UInt8 := [42, 42, 180, 1, 177, 19, 1, 180, 104, 17, 48, 57, 96, 181, 1, 177, 42, 180, 1, 177, 16, 16, 122]
abbrev dktX4_draw_0 : List UInt8 := dkwX4_draw_0 ++ dktX4_draw_1
theorem dksX4_draw_0 : cX4_draw.data.toList.drop 0 = dktX4_draw_0 := by decide +kernel
theorem dksX4_draw_1 : cX4_draw.data.toList.drop 23 = dktX4_draw_1 := dk_seg dksX4_draw_0 23 rfl rfl
theorem dX4_draw_0 : decode cX4_draw 0 = .ok (.aload_n 0, 1) := dk_42 (dk_at dksX4_draw_0 0 rfl rfl)
theorem dX4_draw_1 : decode cX4_draw 1 = .ok (.aload_n 0, 1) := dk_42 (dk_at dksX4_draw_0 1 rfl rfl)
theorem dX4_draw_2 : decode cX4_draw 2 = .ok (.getfield 433, 3) := dk_180 1 177 (dk_at dksX4_draw_0 2 rfl rfl)
theorem dX4_draw_5 : decode cX4_draw 5 = .ok (.ldc_w 436, 3) := dk_19 1 180 (dk_at dksX4_draw_0 5 rfl rfl)
theorem dX4_draw_8 : decode cX4_draw 8 = .ok (.imul, 1) := dk_104 (dk_at dksX4_draw_0 8 rfl rfl)
theorem dX4_draw_9 : decode cX4_draw 9 = .ok (.sipush 12345, 3) := dk_17 48 57 (dk_at dksX4_draw_0 9 rfl rfl)
theorem dX4_draw_12 : decode cX4_draw 12 = .ok (.iadd, 1) := dk_96 (dk_at dksX4_draw_0 12 rfl rfl)
theorem dX4_draw_13 : decode cX4_draw 13 = .ok (.putfield 433, 3) := dk_181 1 177 (dk_at dksX4_draw_0 13 rfl rfl)
theorem dX4_draw_16 : decode cX4_draw 16 = .ok (.aload_n 0, 1) := dk_42 (dk_at dksX4_draw_0 16 rfl rfl)
theorem dX4_draw_17 : decode cX4_draw 17 = .ok (.getfield 433, 3) := dk_180 1 177 (dk_at dksX4_draw_0 17 rfl rfl)
theorem dX4_draw_20 : decode cX4_draw 20 = .ok (.bipush 16, 2) := dk_16 16 (dk_at dksX4_draw_0 20 rfl rfl)
theorem dX4_draw_22 : decode cX4_draw 22 = .ok (.ishr, 1) := dk_122 (dk_at dksX4_draw_0 22 rfl rfl)
theorem dX4_draw_23 : decode cX4_draw 23 = .ok (.sipush 32767, 3) := dk_17 127 255 (dk_at dksX4_draw_1 0 rfl rfl)
theorem dX4_draw_26 : decode cX4_draw 26 = .ok (.iand, 1) := dk_126 (dk_at dksX4_draw_1 3 rfl rfl)
theorem dX4_draw_27 : decode cX4_draw 27 = .ok (.iload_n 1, 1) := dk_27 (dk_at dksX4_draw_1 4 rfl rfl)
theorem dX4_draw_28 : decode cX4_draw 28 = .ok (.irem, 1) := dk_112 (dk_at dksX4_draw_1 5 rfl rfl)
theorem dX4_draw_29 : decode cX4_draw 29 = .ok (.ireturn, 1) := dk_172 (dk_at dksX4_draw_1 6 rfl rfl)
abbrev cX4_happens : ByteArray := prog_12_method_109_code
def yX4_happens : MethodName := ⟨RX4, "happens", "()V"⟩
def dkwX4_happens_4 : List UInt8 := [16, 92, 28, 96, 16, 99, 42, 180, 0, 66, 16, 92, 28, 96, 46, 8, 96, 184, 1, 80, 79, 177]
abbrev dktX4_happens_4 : List UInt8 := dkwX4_happens_4 ++ []
def dkwX4_happens_3 : List UInt8 := [160, 0, 10, 42, 180, 1, 28, 154, 0, 4, 177, 42, 42, 180, 1, 28, 182, 1, 181, 61, 42, 180, 0, 66]
abbrev dktX4_happens_3 : List UInt8 := dkwX4_happens_3 ++ dktX4_happens_4
def dkwX4_happens_2 : List UInt8 := [27, 4, 160, 0, 19, 42, 16, 49, 42, 42, 180, 0, 7, 182, 1, 181, 16, 9, 182, 1, 83, 27, 5]
abbrev dktX4_happens_2 : List UInt8 := dkwX4_happens_2 ++ dktX4_happens_3
def dkwX4_happens_1 : List UInt8 := [182, 1, 181, 4, 96, 62, 42, 16, 49, 28, 182, 1, 70, 154, 0, 11, 42, 16, 49, 28, 29, 182, 1, 93]
abbrev dktX4_happens_1 : List UInt8 := dkwX4_happens_1 ++ dktX4_happens_2
def dkwX4_happens_0 : List UInt8 := [42, 16, 6, 182, 1, 181, 60, 27, 154, 0, 39, 42, 42, 180, 0, 7, 182, 1, 181, 61, 42, 16, 20]
abbrev dktX4_happens_0 : List UInt8 := dkwX4_happens_0 ++ dktX4_happens_1
theorem dksX4_happens_0 : cX4_happens.data.toList.drop 0 = dktX4_happens_0 := by decide +kernel
theorem dksX4_happens_1 : cX4_happens.data.toList.drop 23 = dktX4_happens_1 := dk_seg dksX4_happens_0 23 rfl rfl
theorem dksX4_happens_2 : cX4_happens.data.toList.drop 47 = dktX4_happens_2 := dk_seg dksX4_happens_1 24 rfl rfl
theorem dksX4_happens_3 : cX4_happens.data.toList.drop 70 = dktX4_happens_3 := dk_seg dksX4_happens_2 23 rfl rfl
theorem dksX4_happens_4 : cX4_happens.data.toList.drop 94 = dktX4_happens_4 := dk_seg dksX4_happens_3 24 rfl rfl
theorem dX4_happens_0 : decode cX4_happens 0 = .ok (.aload_n 0, 1) := dk_42 (dk_at dksX4_happens_0 0 rfl rfl)
theorem dX4_happens_1 : decode cX4_happens 1 = .ok (.bipush 6, 2) := dk_16 6 (dk_at dksX4_happens_0 1 rfl rfl)
theorem dX4_happens_3 : decode cX4_happens 3 = .ok (.invokevirtual 437, 3) := dk_182 1 181 (dk_at dksX4_happens_0 3 rfl rfl)
theorem dX4_happens_6 : decode cX4_happens 6 = .ok (.istore_n 1, 1) := dk_60 (dk_at dksX4_happens_0 6 rfl rfl)
theorem dX4_happens_7 : decode cX4_happens 7 = .ok (.iload_n 1, 1) := dk_27 (dk_at dksX4_happens_0 7 rfl rfl)
theorem dX4_happens_8 : decode cX4_happens 8 = .ok (.ifCond .ne 39, 3) := dk_154 0 39 (dk_at dksX4_happens_0 8 rfl rfl)
theorem dX4_happens_11 : decode cX4_happens 11 = .ok (.aload_n 0, 1) := dk_42 (dk_at dksX4_happens_0 11 rfl rfl)
theorem dX4_happens_12 : decode cX4_happens 12 = .ok (.aload_n 0, 1) := dk_42 (dk_at dksX4_happens_0 12 rfl rfl)
theorem dX4_happens_13 : decode cX4_happens 13 = .ok (.getfield 7, 3) := dk_180 0 7 (dk_at dksX4_happens_0 13 rfl rfl)
theorem dX4_happens_16 : decode cX4_happens 16 = .ok (.invokevirtual 437, 3) := dk_182 1 181 (dk_at dksX4_happens_0 16 rfl rfl)
theorem dX4_happens_19 : decode cX4_happens 19 = .ok (.istore_n 2, 1) := dk_61 (dk_at dksX4_happens_0 19 rfl rfl)
theorem dX4_happens_20 : decode cX4_happens 20 = .ok (.aload_n 0, 1) := dk_42 (dk_at dksX4_happens_0 20 rfl rfl)
theorem dX4_happens_21 : decode cX4_happens 21 = .ok (.bipush 20, 2) := dk_16 20 (dk_at dksX4_happens_0 21 rfl rfl)
theorem dX4_happens_23 : decode cX4_happens 23 = .ok (.invokevirtual 437, 3) := dk_182 1 181 (dk_at dksX4_happens_1 0 rfl rfl)
theorem dX4_happens_26 : decode cX4_happens 26 = .ok (.iconst 1, 1) := dk_4 (dk_at dksX4_happens_1 3 rfl rfl)
theorem dX4_happens_27 : decode cX4_happens 27 = .ok (.iadd, 1) := dk_96 (dk_at dksX4_happens_1 4 rfl rfl)
theorem dX4_happens_28 : decode cX4_happens 28 = .ok (.istore_n 3, 1) := dk_62 (dk_at dksX4_happens_1 5 rfl rfl)
theorem dX4_happens_29 : decode cX4_happens 29 = .ok (.aload_n 0, 1) := dk_42 (dk_at dksX4_happens_1 6 rfl rfl)
theorem dX4_happens_30 : decode cX4_happens 30 = .ok (.bipush 49, 2) := dk_16 49 (dk_at dksX4_happens_1 7 rfl rfl)
theorem dX4_happens_32 : decode cX4_happens 32 = .ok (.iload_n 2, 1) := dk_28 (dk_at dksX4_happens_1 9 rfl rfl)
theorem dX4_happens_33 : decode cX4_happens 33 = .ok (.invokevirtual 326, 3) := dk_182 1 70 (dk_at dksX4_happens_1 10 rfl rfl)
theorem dX4_happens_36 : decode cX4_happens 36 = .ok (.ifCond .ne 11, 3) := dk_154 0 11 (dk_at dksX4_happens_1 13 rfl rfl)
theorem dX4_happens_39 : decode cX4_happens 39 = .ok (.aload_n 0, 1) := dk_42 (dk_at dksX4_happens_1 16 rfl rfl)
theorem dX4_happens_40 : decode cX4_happens 40 = .ok (.bipush 49, 2) := dk_16 49 (dk_at dksX4_happens_1 17 rfl rfl)
theorem dX4_happens_42 : decode cX4_happens 42 = .ok (.iload_n 2, 1) := dk_28 (dk_at dksX4_happens_1 19 rfl rfl)
theorem dX4_happens_43 : decode cX4_happens 43 = .ok (.iload_n 3, 1) := dk_29 (dk_at dksX4_happens_1 20 rfl rfl)
theorem dX4_happens_44 : decode cX4_happens 44 = .ok (.invokevirtual 349, 3) := dk_182 1 93 (dk_at dksX4_happens_1 21 rfl rfl)
theorem dX4_happens_47 : decode cX4_happens 47 = .ok (.iload_n 1, 1) := dk_27 (dk_at dksX4_happens_2 0 rfl rfl)
theorem dX4_happens_48 : decode cX4_happens 48 = .ok (.iconst 1, 1) := dk_4 (dk_at dksX4_happens_2 1 rfl rfl)
theorem dX4_happens_49 : decode cX4_happens 49 = .ok (.if_icmp .ne 19, 3) := dk_160 0 19 (dk_at dksX4_happens_2 2 rfl rfl)
theorem dX4_happens_52 : decode cX4_happens 52 = .ok (.aload_n 0, 1) := dk_42 (dk_at dksX4_happens_2 5 rfl rfl)
theorem dX4_happens_53 : decode cX4_happens 53 = .ok (.bipush 49, 2) := dk_16 49 (dk_at dksX4_happens_2 6 rfl rfl)
theorem dX4_happens_55 : decode cX4_happens 55 = .ok (.aload_n 0, 1) := dk_42 (dk_at dksX4_happens_2 8 rfl rfl)
theorem dX4_happens_56 : decode cX4_happens 56 = .ok (.aload_n 0, 1) := dk_42 (dk_at dksX4_happens_2 9 rfl rfl)
theorem dX4_happens_57 : decode cX4_happens 57 = .ok (.getfield 7, 3) := dk_180 0 7 (dk_at dksX4_happens_2 10 rfl rfl)
theorem dX4_happens_60 : decode cX4_happens 60 = .ok (.invokevirtual 437, 3) := dk_182 1 181 (dk_at dksX4_happens_2 13 rfl rfl)
theorem dX4_happens_63 : decode cX4_happens 63 = .ok (.bipush 9, 2) := dk_16 9 (dk_at dksX4_happens_2 16 rfl rfl)
theorem dX4_happens_65 : decode cX4_happens 65 = .ok (.invokevirtual 339, 3) := dk_182 1 83 (dk_at dksX4_happens_2 18 rfl rfl)
theorem dX4_happens_68 : decode cX4_happens 68 = .ok (.iload_n 1, 1) := dk_27 (dk_at dksX4_happens_2 21 rfl rfl)
theorem dX4_happens_69 : decode cX4_happens 69 = .ok (.iconst 2, 1) := dk_5 (dk_at dksX4_happens_2 22 rfl rfl)
theorem dX4_happens_70 : decode cX4_happens 70 = .ok (.if_icmp .ne 10, 3) := dk_160 0 10 (dk_at dksX4_happens_3 0 rfl rfl)
theorem dX4_happens_73 : decode cX4_happens 73 = .ok (.aload_n 0, 1) := dk_42 (dk_at dksX4_happens_3 3 rfl rfl)
theorem dX4_happens_74 : decode cX4_happens 74 = .ok (.getfield 284, 3) := dk_180 1 28 (dk_at dksX4_happens_3 4 rfl rfl)
theorem dX4_happens_77 : decode cX4_happens 77 = .ok (.ifCond .ne 4, 3) := dk_154 0 4 (dk_at dksX4_happens_3 7 rfl rfl)
theorem dX4_happens_80 : decode cX4_happens 80 = .ok (.return_, 1) := dk_177 (dk_at dksX4_happens_3 10 rfl rfl)
theorem dX4_happens_81 : decode cX4_happens 81 = .ok (.aload_n 0, 1) := dk_42 (dk_at dksX4_happens_3 11 rfl rfl)
theorem dX4_happens_82 : decode cX4_happens 82 = .ok (.aload_n 0, 1) := dk_42 (dk_at dksX4_happens_3 12 rfl rfl)
theorem dX4_happens_83 : decode cX4_happens 83 = .ok (.getfield 284, 3) := dk_180 1 28 (dk_at dksX4_happens_3 13 rfl rfl)
theorem dX4_happens_86 : decode cX4_happens 86 = .ok (.invokevirtual 437, 3) := dk_182 1 181 (dk_at dksX4_happens_3 16 rfl rfl)
theorem dX4_happens_89 : decode cX4_happens 89 = .ok (.istore_n 2, 1) := dk_61 (dk_at dksX4_happens_3 19 rfl rfl)
theorem dX4_happens_90 : decode cX4_happens 90 = .ok (.aload_n 0, 1) := dk_42 (dk_at dksX4_happens_3 20 rfl rfl)
theorem dX4_happens_91 : decode cX4_happens 91 = .ok (.getfield 66, 3) := dk_180 0 66 (dk_at dksX4_happens_3 21 rfl rfl)
theorem dX4_happens_94 : decode cX4_happens 94 = .ok (.bipush 92, 2) := dk_16 92 (dk_at dksX4_happens_4 0 rfl rfl)
theorem dX4_happens_96 : decode cX4_happens 96 = .ok (.iload_n 2, 1) := dk_28 (dk_at dksX4_happens_4 2 rfl rfl)
theorem dX4_happens_97 : decode cX4_happens 97 = .ok (.iadd, 1) := dk_96 (dk_at dksX4_happens_4 3 rfl rfl)
theorem dX4_happens_98 : decode cX4_happens 98 = .ok (.bipush 99, 2) := dk_16 99 (dk_at dksX4_happens_4 4 rfl rfl)
theorem dX4_happens_100 : decode cX4_happens 100 = .ok (.aload_n 0, 1) := dk_42 (dk_at dksX4_happens_4 6 rfl rfl)
theorem dX4_happens_101 : decode cX4_happens 101 = .ok (.getfield 66, 3) := dk_180 0 66 (dk_at dksX4_happens_4 7 rfl rfl)
theorem dX4_happens_104 : decode cX4_happens 104 = .ok (.bipush 92, 2) := dk_16 92 (dk_at dksX4_happens_4 10 rfl rfl)
theorem dX4_happens_106 : decode cX4_happens 106 = .ok (.iload_n 2, 1) := dk_28 (dk_at dksX4_happens_4 12 rfl rfl)
theorem dX4_happens_107 : decode cX4_happens 107 = .ok (.iadd, 1) := dk_96 (dk_at dksX4_happens_4 13 rfl rfl)
theorem dX4_happens_108 : decode cX4_happens 108 = .ok (.iaload, 1) := dk_46 (dk_at dksX4_happens_4 14 rfl rfl)
theorem dX4_happens_109 : decode cX4_happens 109 = .ok (.iconst 5, 1) := dk_8 (dk_at dksX4_happens_4 15 rfl rfl)
theorem dX4_happens_110 : decode cX4_happens 110 = .ok (.iadd, 1) := dk_96 (dk_at dksX4_happens_4 16 rfl rfl)
theorem dX4_happens_111 : decode cX4_happens 111 = .ok (.invokestatic 336, 3) := dk_184 1 80 (dk_at dksX4_happens_4 17 rfl rfl)
theorem dX4_happens_114 : decode cX4_happens 114 = .ok (.iastore, 1) := dk_79 (dk_at dksX4_happens_4 20 rfl rfl)
theorem dX4_happens_115 : decode cX4_happens 115 = .ok (.return_, 1) := dk_177 (dk_at dksX4_happens_4 21 rfl rfl)
abbrev cX4_years : ByteArray := prog_12_method_110_code
def yX4_years : MethodName := ⟨RX4, "years", "(III)I"⟩
def dkwX4_years_4 : List UInt8 := [167, 0, 15, 42, 16, 49, 16, 43, 42, 180, 1, 28, 182, 1, 113, 172]
abbrev dktX4_years_4 : List UInt8 := dkwX4_years_4 ++ []
def dkwX4_years_3 : List UInt8 := [184, 1, 64, 167, 0, 35, 29, 4, 160, 0, 18, 42, 16, 49, 16, 13, 42, 180, 0, 7, 182, 1, 113]
abbrev dktX4_years_3 : List UInt8 := dkwX4_years_3 ++ dktX4_years_4
def dkwX4_years_2 : List UInt8 := [42, 16, 49, 182, 1, 103, 132, 4, 1, 167, 255, 237, 29, 154, 0, 15, 42, 16, 49, 182, 1, 110]
abbrev dktX4_years_2 : List UInt8 := dkwX4_years_2 ++ dktX4_years_3
def dkwX4_years_1 : List UInt8 := [3, 172, 42, 182, 1, 134, 42, 27, 181, 1, 177, 3, 54, 4, 21, 4, 28, 162, 0, 19, 42, 182, 1, 184]
abbrev dktX4_years_1 : List UInt8 := dkwX4_years_1 ++ dktX4_years_2
def dkwX4_years_0 : List UInt8 := [42, 3, 181, 0, 117, 42, 29, 5, 182, 1, 122, 153, 0, 13, 42, 28, 3, 5, 182, 1, 140, 154, 0, 5]
abbrev dktX4_years_0 : List UInt8 := dkwX4_years_0 ++ dktX4_years_1
theorem dksX4_years_0 : cX4_years.data.toList.drop 0 = dktX4_years_0 := by decide +kernel
theorem dksX4_years_1 : cX4_years.data.toList.drop 24 = dktX4_years_1 := dk_seg dksX4_years_0 24 rfl rfl
theorem dksX4_years_2 : cX4_years.data.toList.drop 48 = dktX4_years_2 := dk_seg dksX4_years_1 24 rfl rfl
theorem dksX4_years_3 : cX4_years.data.toList.drop 70 = dktX4_years_3 := dk_seg dksX4_years_2 22 rfl rfl
theorem dksX4_years_4 : cX4_years.data.toList.drop 93 = dktX4_years_4 := dk_seg dksX4_years_3 23 rfl rfl
theorem dX4_years_0 : decode cX4_years 0 = .ok (.aload_n 0, 1) := dk_42 (dk_at dksX4_years_0 0 rfl rfl)
theorem dX4_years_1 : decode cX4_years 1 = .ok (.iconst 0, 1) := dk_3 (dk_at dksX4_years_0 1 rfl rfl)
theorem dX4_years_2 : decode cX4_years 2 = .ok (.putfield 117, 3) := dk_181 0 117 (dk_at dksX4_years_0 2 rfl rfl)
theorem dX4_years_5 : decode cX4_years 5 = .ok (.aload_n 0, 1) := dk_42 (dk_at dksX4_years_0 5 rfl rfl)
theorem dX4_years_6 : decode cX4_years 6 = .ok (.iload_n 3, 1) := dk_29 (dk_at dksX4_years_0 6 rfl rfl)
theorem dX4_years_7 : decode cX4_years 7 = .ok (.iconst 2, 1) := dk_5 (dk_at dksX4_years_0 7 rfl rfl)
theorem dX4_years_8 : decode cX4_years 8 = .ok (.invokevirtual 378, 3) := dk_182 1 122 (dk_at dksX4_years_0 8 rfl rfl)
theorem dX4_years_11 : decode cX4_years 11 = .ok (.ifCond .eq 13, 3) := dk_153 0 13 (dk_at dksX4_years_0 11 rfl rfl)
theorem dX4_years_14 : decode cX4_years 14 = .ok (.aload_n 0, 1) := dk_42 (dk_at dksX4_years_0 14 rfl rfl)
theorem dX4_years_15 : decode cX4_years 15 = .ok (.iload_n 2, 1) := dk_28 (dk_at dksX4_years_0 15 rfl rfl)
theorem dX4_years_16 : decode cX4_years 16 = .ok (.iconst 0, 1) := dk_3 (dk_at dksX4_years_0 16 rfl rfl)
theorem dX4_years_17 : decode cX4_years 17 = .ok (.iconst 2, 1) := dk_5 (dk_at dksX4_years_0 17 rfl rfl)
theorem dX4_years_18 : decode cX4_years 18 = .ok (.invokevirtual 396, 3) := dk_182 1 140 (dk_at dksX4_years_0 18 rfl rfl)
theorem dX4_years_21 : decode cX4_years 21 = .ok (.ifCond .ne 5, 3) := dk_154 0 5 (dk_at dksX4_years_0 21 rfl rfl)
theorem dX4_years_24 : decode cX4_years 24 = .ok (.iconst 0, 1) := dk_3 (dk_at dksX4_years_1 0 rfl rfl)
theorem dX4_years_25 : decode cX4_years 25 = .ok (.ireturn, 1) := dk_172 (dk_at dksX4_years_1 1 rfl rfl)
theorem dX4_years_26 : decode cX4_years 26 = .ok (.aload_n 0, 1) := dk_42 (dk_at dksX4_years_1 2 rfl rfl)
theorem dX4_years_27 : decode cX4_years 27 = .ok (.invokevirtual 390, 3) := dk_182 1 134 (dk_at dksX4_years_1 3 rfl rfl)
theorem dX4_years_30 : decode cX4_years 30 = .ok (.aload_n 0, 1) := dk_42 (dk_at dksX4_years_1 6 rfl rfl)
theorem dX4_years_31 : decode cX4_years 31 = .ok (.iload_n 1, 1) := dk_27 (dk_at dksX4_years_1 7 rfl rfl)
theorem dX4_years_32 : decode cX4_years 32 = .ok (.putfield 433, 3) := dk_181 1 177 (dk_at dksX4_years_1 8 rfl rfl)
theorem dX4_years_35 : decode cX4_years 35 = .ok (.iconst 0, 1) := dk_3 (dk_at dksX4_years_1 11 rfl rfl)
theorem dX4_years_36 : decode cX4_years 36 = .ok (.istore 4, 2) := dk_54 4 (dk_at dksX4_years_1 12 rfl rfl)
theorem dX4_years_38 : decode cX4_years 38 = .ok (.iload 4, 2) := dk_21 4 (dk_at dksX4_years_1 14 rfl rfl)
theorem dX4_years_40 : decode cX4_years 40 = .ok (.iload_n 2, 1) := dk_28 (dk_at dksX4_years_1 16 rfl rfl)
theorem dX4_years_41 : decode cX4_years 41 = .ok (.if_icmp .ge 19, 3) := dk_162 0 19 (dk_at dksX4_years_1 17 rfl rfl)
theorem dX4_years_44 : decode cX4_years 44 = .ok (.aload_n 0, 1) := dk_42 (dk_at dksX4_years_1 20 rfl rfl)
theorem dX4_years_45 : decode cX4_years 45 = .ok (.invokevirtual 440, 3) := dk_182 1 184 (dk_at dksX4_years_1 21 rfl rfl)
theorem dX4_years_48 : decode cX4_years 48 = .ok (.aload_n 0, 1) := dk_42 (dk_at dksX4_years_2 0 rfl rfl)
theorem dX4_years_49 : decode cX4_years 49 = .ok (.bipush 49, 2) := dk_16 49 (dk_at dksX4_years_2 1 rfl rfl)
theorem dX4_years_51 : decode cX4_years 51 = .ok (.invokevirtual 359, 3) := dk_182 1 103 (dk_at dksX4_years_2 3 rfl rfl)
theorem dX4_years_54 : decode cX4_years 54 = .ok (.iinc 4 1, 3) := dk_132 4 1 (dk_at dksX4_years_2 6 rfl rfl)
theorem dX4_years_57 : decode cX4_years 57 = .ok (.goto (-19), 3) := dk_167 255 237 (dk_at dksX4_years_2 9 rfl rfl)
theorem dX4_years_60 : decode cX4_years 60 = .ok (.iload_n 3, 1) := dk_29 (dk_at dksX4_years_2 12 rfl rfl)
theorem dX4_years_61 : decode cX4_years 61 = .ok (.ifCond .ne 15, 3) := dk_154 0 15 (dk_at dksX4_years_2 13 rfl rfl)
theorem dX4_years_64 : decode cX4_years 64 = .ok (.aload_n 0, 1) := dk_42 (dk_at dksX4_years_2 16 rfl rfl)
theorem dX4_years_65 : decode cX4_years 65 = .ok (.bipush 49, 2) := dk_16 49 (dk_at dksX4_years_2 17 rfl rfl)
theorem dX4_years_67 : decode cX4_years 67 = .ok (.invokevirtual 366, 3) := dk_182 1 110 (dk_at dksX4_years_2 19 rfl rfl)
theorem dX4_years_70 : decode cX4_years 70 = .ok (.invokestatic 320, 3) := dk_184 1 64 (dk_at dksX4_years_3 0 rfl rfl)
theorem dX4_years_73 : decode cX4_years 73 = .ok (.goto 35, 3) := dk_167 0 35 (dk_at dksX4_years_3 3 rfl rfl)
theorem dX4_years_76 : decode cX4_years 76 = .ok (.iload_n 3, 1) := dk_29 (dk_at dksX4_years_3 6 rfl rfl)
theorem dX4_years_77 : decode cX4_years 77 = .ok (.iconst 1, 1) := dk_4 (dk_at dksX4_years_3 7 rfl rfl)
theorem dX4_years_78 : decode cX4_years 78 = .ok (.if_icmp .ne 18, 3) := dk_160 0 18 (dk_at dksX4_years_3 8 rfl rfl)
theorem dX4_years_81 : decode cX4_years 81 = .ok (.aload_n 0, 1) := dk_42 (dk_at dksX4_years_3 11 rfl rfl)
theorem dX4_years_82 : decode cX4_years 82 = .ok (.bipush 49, 2) := dk_16 49 (dk_at dksX4_years_3 12 rfl rfl)
theorem dX4_years_84 : decode cX4_years 84 = .ok (.bipush 13, 2) := dk_16 13 (dk_at dksX4_years_3 14 rfl rfl)
theorem dX4_years_86 : decode cX4_years 86 = .ok (.aload_n 0, 1) := dk_42 (dk_at dksX4_years_3 16 rfl rfl)
theorem dX4_years_87 : decode cX4_years 87 = .ok (.getfield 7, 3) := dk_180 0 7 (dk_at dksX4_years_3 17 rfl rfl)
theorem dX4_years_90 : decode cX4_years 90 = .ok (.invokevirtual 369, 3) := dk_182 1 113 (dk_at dksX4_years_3 20 rfl rfl)
theorem dX4_years_93 : decode cX4_years 93 = .ok (.goto 15, 3) := dk_167 0 15 (dk_at dksX4_years_4 0 rfl rfl)
theorem dX4_years_96 : decode cX4_years 96 = .ok (.aload_n 0, 1) := dk_42 (dk_at dksX4_years_4 3 rfl rfl)
theorem dX4_years_97 : decode cX4_years 97 = .ok (.bipush 49, 2) := dk_16 49 (dk_at dksX4_years_4 4 rfl rfl)
theorem dX4_years_99 : decode cX4_years 99 = .ok (.bipush 43, 2) := dk_16 43 (dk_at dksX4_years_4 6 rfl rfl)
theorem dX4_years_101 : decode cX4_years 101 = .ok (.aload_n 0, 1) := dk_42 (dk_at dksX4_years_4 8 rfl rfl)
theorem dX4_years_102 : decode cX4_years 102 = .ok (.getfield 284, 3) := dk_180 1 28 (dk_at dksX4_years_4 9 rfl rfl)
theorem dX4_years_105 : decode cX4_years 105 = .ok (.invokevirtual 369, 3) := dk_182 1 113 (dk_at dksX4_years_4 12 rfl rfl)
theorem dX4_years_108 : decode cX4_years 108 = .ok (.ireturn, 1) := dk_172 (dk_at dksX4_years_4 15 rfl rfl)
abbrev cX4_steady : ByteArray := prog_12_method_111_code
def yX4_steady : MethodName := ⟨RX4, "steady", "()I"⟩
def dkwX4_steady_4 : List UInt8 := [167, 255, 219, 28, 153, 0, 5, 27, 172, 132, 1, 1, 167, 255, 162, 2, 172]
abbrev dktX4_steady_4 : List UInt8 := dkwX4_steady_4 ++ []
def dkwX4_steady_3 : List UInt8 := [29, 46, 42, 180, 0, 66, 16, 50, 29, 96, 46, 160, 0, 7, 4, 167, 0, 4, 3, 61, 132, 3, 1]
abbrev dktX4_steady_3 : List UInt8 := dkwX4_steady_3 ++ dktX4_steady_4
def dkwX4_steady_2 : List UInt8 := [42, 16, 49, 182, 1, 103, 4, 61, 3, 62, 29, 16, 24, 162, 0, 37, 28, 153, 0, 25, 42, 180, 0, 105]
abbrev dktX4_steady_2 : List UInt8 := dkwX4_steady_2 ++ dktX4_steady_3
def dkwX4_steady_1 : List UInt8 := [162, 0, 24, 42, 180, 0, 105, 28, 42, 180, 0, 66, 16, 50, 28, 96, 46, 79, 132, 2, 1, 167, 255, 232]
abbrev dktX4_steady_1 : List UInt8 := dkwX4_steady_1 ++ dktX4_steady_2
def dkwX4_steady_0 : List UInt8 := [42, 3, 181, 0, 117, 42, 182, 1, 134, 4, 60, 27, 16, 60, 163, 0, 94, 3, 61, 28, 16, 24]
abbrev dktX4_steady_0 : List UInt8 := dkwX4_steady_0 ++ dktX4_steady_1
theorem dksX4_steady_0 : cX4_steady.data.toList.drop 0 = dktX4_steady_0 := by decide +kernel
theorem dksX4_steady_1 : cX4_steady.data.toList.drop 22 = dktX4_steady_1 := dk_seg dksX4_steady_0 22 rfl rfl
theorem dksX4_steady_2 : cX4_steady.data.toList.drop 46 = dktX4_steady_2 := dk_seg dksX4_steady_1 24 rfl rfl
theorem dksX4_steady_3 : cX4_steady.data.toList.drop 70 = dktX4_steady_3 := dk_seg dksX4_steady_2 24 rfl rfl
theorem dksX4_steady_4 : cX4_steady.data.toList.drop 93 = dktX4_steady_4 := dk_seg dksX4_steady_3 23 rfl rfl
theorem dX4_steady_0 : decode cX4_steady 0 = .ok (.aload_n 0, 1) := dk_42 (dk_at dksX4_steady_0 0 rfl rfl)
theorem dX4_steady_1 : decode cX4_steady 1 = .ok (.iconst 0, 1) := dk_3 (dk_at dksX4_steady_0 1 rfl rfl)
theorem dX4_steady_2 : decode cX4_steady 2 = .ok (.putfield 117, 3) := dk_181 0 117 (dk_at dksX4_steady_0 2 rfl rfl)
theorem dX4_steady_5 : decode cX4_steady 5 = .ok (.aload_n 0, 1) := dk_42 (dk_at dksX4_steady_0 5 rfl rfl)
theorem dX4_steady_6 : decode cX4_steady 6 = .ok (.invokevirtual 390, 3) := dk_182 1 134 (dk_at dksX4_steady_0 6 rfl rfl)
theorem dX4_steady_9 : decode cX4_steady 9 = .ok (.iconst 1, 1) := dk_4 (dk_at dksX4_steady_0 9 rfl rfl)
theorem dX4_steady_10 : decode cX4_steady 10 = .ok (.istore_n 1, 1) := dk_60 (dk_at dksX4_steady_0 10 rfl rfl)
theorem dX4_steady_11 : decode cX4_steady 11 = .ok (.iload_n 1, 1) := dk_27 (dk_at dksX4_steady_0 11 rfl rfl)
theorem dX4_steady_12 : decode cX4_steady 12 = .ok (.bipush 60, 2) := dk_16 60 (dk_at dksX4_steady_0 12 rfl rfl)
theorem dX4_steady_14 : decode cX4_steady 14 = .ok (.if_icmp .gt 94, 3) := dk_163 0 94 (dk_at dksX4_steady_0 14 rfl rfl)
theorem dX4_steady_17 : decode cX4_steady 17 = .ok (.iconst 0, 1) := dk_3 (dk_at dksX4_steady_0 17 rfl rfl)
theorem dX4_steady_18 : decode cX4_steady 18 = .ok (.istore_n 2, 1) := dk_61 (dk_at dksX4_steady_0 18 rfl rfl)
theorem dX4_steady_19 : decode cX4_steady 19 = .ok (.iload_n 2, 1) := dk_28 (dk_at dksX4_steady_0 19 rfl rfl)
theorem dX4_steady_20 : decode cX4_steady 20 = .ok (.bipush 24, 2) := dk_16 24 (dk_at dksX4_steady_0 20 rfl rfl)
theorem dX4_steady_22 : decode cX4_steady 22 = .ok (.if_icmp .ge 24, 3) := dk_162 0 24 (dk_at dksX4_steady_1 0 rfl rfl)
theorem dX4_steady_25 : decode cX4_steady 25 = .ok (.aload_n 0, 1) := dk_42 (dk_at dksX4_steady_1 3 rfl rfl)
theorem dX4_steady_26 : decode cX4_steady 26 = .ok (.getfield 105, 3) := dk_180 0 105 (dk_at dksX4_steady_1 4 rfl rfl)
theorem dX4_steady_29 : decode cX4_steady 29 = .ok (.iload_n 2, 1) := dk_28 (dk_at dksX4_steady_1 7 rfl rfl)
theorem dX4_steady_30 : decode cX4_steady 30 = .ok (.aload_n 0, 1) := dk_42 (dk_at dksX4_steady_1 8 rfl rfl)
theorem dX4_steady_31 : decode cX4_steady 31 = .ok (.getfield 66, 3) := dk_180 0 66 (dk_at dksX4_steady_1 9 rfl rfl)
theorem dX4_steady_34 : decode cX4_steady 34 = .ok (.bipush 50, 2) := dk_16 50 (dk_at dksX4_steady_1 12 rfl rfl)
theorem dX4_steady_36 : decode cX4_steady 36 = .ok (.iload_n 2, 1) := dk_28 (dk_at dksX4_steady_1 14 rfl rfl)
theorem dX4_steady_37 : decode cX4_steady 37 = .ok (.iadd, 1) := dk_96 (dk_at dksX4_steady_1 15 rfl rfl)
theorem dX4_steady_38 : decode cX4_steady 38 = .ok (.iaload, 1) := dk_46 (dk_at dksX4_steady_1 16 rfl rfl)
theorem dX4_steady_39 : decode cX4_steady 39 = .ok (.iastore, 1) := dk_79 (dk_at dksX4_steady_1 17 rfl rfl)
theorem dX4_steady_40 : decode cX4_steady 40 = .ok (.iinc 2 1, 3) := dk_132 2 1 (dk_at dksX4_steady_1 18 rfl rfl)
theorem dX4_steady_43 : decode cX4_steady 43 = .ok (.goto (-24), 3) := dk_167 255 232 (dk_at dksX4_steady_1 21 rfl rfl)
theorem dX4_steady_46 : decode cX4_steady 46 = .ok (.aload_n 0, 1) := dk_42 (dk_at dksX4_steady_2 0 rfl rfl)
theorem dX4_steady_47 : decode cX4_steady 47 = .ok (.bipush 49, 2) := dk_16 49 (dk_at dksX4_steady_2 1 rfl rfl)
theorem dX4_steady_49 : decode cX4_steady 49 = .ok (.invokevirtual 359, 3) := dk_182 1 103 (dk_at dksX4_steady_2 3 rfl rfl)
theorem dX4_steady_52 : decode cX4_steady 52 = .ok (.iconst 1, 1) := dk_4 (dk_at dksX4_steady_2 6 rfl rfl)
theorem dX4_steady_53 : decode cX4_steady 53 = .ok (.istore_n 2, 1) := dk_61 (dk_at dksX4_steady_2 7 rfl rfl)
theorem dX4_steady_54 : decode cX4_steady 54 = .ok (.iconst 0, 1) := dk_3 (dk_at dksX4_steady_2 8 rfl rfl)
theorem dX4_steady_55 : decode cX4_steady 55 = .ok (.istore_n 3, 1) := dk_62 (dk_at dksX4_steady_2 9 rfl rfl)
theorem dX4_steady_56 : decode cX4_steady 56 = .ok (.iload_n 3, 1) := dk_29 (dk_at dksX4_steady_2 10 rfl rfl)
theorem dX4_steady_57 : decode cX4_steady 57 = .ok (.bipush 24, 2) := dk_16 24 (dk_at dksX4_steady_2 11 rfl rfl)
theorem dX4_steady_59 : decode cX4_steady 59 = .ok (.if_icmp .ge 37, 3) := dk_162 0 37 (dk_at dksX4_steady_2 13 rfl rfl)
theorem dX4_steady_62 : decode cX4_steady 62 = .ok (.iload_n 2, 1) := dk_28 (dk_at dksX4_steady_2 16 rfl rfl)
theorem dX4_steady_63 : decode cX4_steady 63 = .ok (.ifCond .eq 25, 3) := dk_153 0 25 (dk_at dksX4_steady_2 17 rfl rfl)
theorem dX4_steady_66 : decode cX4_steady 66 = .ok (.aload_n 0, 1) := dk_42 (dk_at dksX4_steady_2 20 rfl rfl)
theorem dX4_steady_67 : decode cX4_steady 67 = .ok (.getfield 105, 3) := dk_180 0 105 (dk_at dksX4_steady_2 21 rfl rfl)
theorem dX4_steady_70 : decode cX4_steady 70 = .ok (.iload_n 3, 1) := dk_29 (dk_at dksX4_steady_3 0 rfl rfl)
theorem dX4_steady_71 : decode cX4_steady 71 = .ok (.iaload, 1) := dk_46 (dk_at dksX4_steady_3 1 rfl rfl)
theorem dX4_steady_72 : decode cX4_steady 72 = .ok (.aload_n 0, 1) := dk_42 (dk_at dksX4_steady_3 2 rfl rfl)
theorem dX4_steady_73 : decode cX4_steady 73 = .ok (.getfield 66, 3) := dk_180 0 66 (dk_at dksX4_steady_3 3 rfl rfl)
theorem dX4_steady_76 : decode cX4_steady 76 = .ok (.bipush 50, 2) := dk_16 50 (dk_at dksX4_steady_3 6 rfl rfl)
theorem dX4_steady_78 : decode cX4_steady 78 = .ok (.iload_n 3, 1) := dk_29 (dk_at dksX4_steady_3 8 rfl rfl)
theorem dX4_steady_79 : decode cX4_steady 79 = .ok (.iadd, 1) := dk_96 (dk_at dksX4_steady_3 9 rfl rfl)
theorem dX4_steady_80 : decode cX4_steady 80 = .ok (.iaload, 1) := dk_46 (dk_at dksX4_steady_3 10 rfl rfl)
theorem dX4_steady_81 : decode cX4_steady 81 = .ok (.if_icmp .ne 7, 3) := dk_160 0 7 (dk_at dksX4_steady_3 11 rfl rfl)
theorem dX4_steady_84 : decode cX4_steady 84 = .ok (.iconst 1, 1) := dk_4 (dk_at dksX4_steady_3 14 rfl rfl)
theorem dX4_steady_85 : decode cX4_steady 85 = .ok (.goto 4, 3) := dk_167 0 4 (dk_at dksX4_steady_3 15 rfl rfl)
theorem dX4_steady_88 : decode cX4_steady 88 = .ok (.iconst 0, 1) := dk_3 (dk_at dksX4_steady_3 18 rfl rfl)
theorem dX4_steady_89 : decode cX4_steady 89 = .ok (.istore_n 2, 1) := dk_61 (dk_at dksX4_steady_3 19 rfl rfl)
theorem dX4_steady_90 : decode cX4_steady 90 = .ok (.iinc 3 1, 3) := dk_132 3 1 (dk_at dksX4_steady_3 20 rfl rfl)
theorem dX4_steady_93 : decode cX4_steady 93 = .ok (.goto (-37), 3) := dk_167 255 219 (dk_at dksX4_steady_4 0 rfl rfl)
theorem dX4_steady_96 : decode cX4_steady 96 = .ok (.iload_n 2, 1) := dk_28 (dk_at dksX4_steady_4 3 rfl rfl)
theorem dX4_steady_97 : decode cX4_steady 97 = .ok (.ifCond .eq 5, 3) := dk_153 0 5 (dk_at dksX4_steady_4 4 rfl rfl)
theorem dX4_steady_100 : decode cX4_steady 100 = .ok (.iload_n 1, 1) := dk_27 (dk_at dksX4_steady_4 7 rfl rfl)
theorem dX4_steady_101 : decode cX4_steady 101 = .ok (.ireturn, 1) := dk_172 (dk_at dksX4_steady_4 8 rfl rfl)
theorem dX4_steady_102 : decode cX4_steady 102 = .ok (.iinc 1 1, 3) := dk_132 1 1 (dk_at dksX4_steady_4 9 rfl rfl)
theorem dX4_steady_105 : decode cX4_steady 105 = .ok (.goto (-94), 3) := dk_167 255 162 (dk_at dksX4_steady_4 12 rfl rfl)
theorem dX4_steady_108 : decode cX4_steady 108 = .ok (.iconst (-1), 1) := dk_2 (dk_at dksX4_steady_4 15 rfl rfl)
theorem dX4_steady_109 : decode cX4_steady 109 = .ok (.ireturn, 1) := dk_172 (dk_at dksX4_steady_4 16 rfl rfl)
abbrev cX4_nearest : ByteArray := prog_12_method_112_code
def yX4_nearest : MethodName := ⟨RX4, "nearest", "(I)I"⟩
def dkwX4_nearest_3 : List UInt8 := [172]
abbrev dktX4_nearest_3 : List UInt8 := dkwX4_nearest_3 ++ []
def dkwX4_nearest_2 : List UInt8 := [180, 0, 66, 16, 37, 28, 96, 46, 27, 182, 1, 154, 162, 0, 5, 29, 61, 132, 3, 1, 167, 255, 207, 28]
abbrev dktX4_nearest_2 : List UInt8 := dkwX4_nearest_2 ++ dktX4_nearest_3
def dkwX4_nearest_1 : List UInt8 := [162, 0, 47, 28, 2, 159, 0, 34, 42, 42, 180, 0, 66, 16, 37, 29, 96, 46, 27, 182, 1, 154, 42, 42]
abbrev dktX4_nearest_1 : List UInt8 := dkwX4_nearest_1 ++ dktX4_nearest_2
def dkwX4_nearest_0 : List UInt8 := [42, 3, 181, 0, 117, 42, 27, 182, 1, 119, 154, 0, 5, 3, 172, 2, 61, 3, 62, 29, 42, 180, 1, 28]
abbrev dktX4_nearest_0 : List UInt8 := dkwX4_nearest_0 ++ dktX4_nearest_1
theorem dksX4_nearest_0 : cX4_nearest.data.toList.drop 0 = dktX4_nearest_0 := by decide +kernel
theorem dksX4_nearest_1 : cX4_nearest.data.toList.drop 24 = dktX4_nearest_1 := dk_seg dksX4_nearest_0 24 rfl rfl
theorem dksX4_nearest_2 : cX4_nearest.data.toList.drop 48 = dktX4_nearest_2 := dk_seg dksX4_nearest_1 24 rfl rfl
theorem dksX4_nearest_3 : cX4_nearest.data.toList.drop 72 = dktX4_nearest_3 := dk_seg dksX4_nearest_2 24 rfl rfl
theorem dX4_nearest_0 : decode cX4_nearest 0 = .ok (.aload_n 0, 1) := dk_42 (dk_at dksX4_nearest_0 0 rfl rfl)
theorem dX4_nearest_1 : decode cX4_nearest 1 = .ok (.iconst 0, 1) := dk_3 (dk_at dksX4_nearest_0 1 rfl rfl)
theorem dX4_nearest_2 : decode cX4_nearest 2 = .ok (.putfield 117, 3) := dk_181 0 117 (dk_at dksX4_nearest_0 2 rfl rfl)
theorem dX4_nearest_5 : decode cX4_nearest 5 = .ok (.aload_n 0, 1) := dk_42 (dk_at dksX4_nearest_0 5 rfl rfl)
theorem dX4_nearest_6 : decode cX4_nearest 6 = .ok (.iload_n 1, 1) := dk_27 (dk_at dksX4_nearest_0 6 rfl rfl)
theorem dX4_nearest_7 : decode cX4_nearest 7 = .ok (.invokevirtual 375, 3) := dk_182 1 119 (dk_at dksX4_nearest_0 7 rfl rfl)
theorem dX4_nearest_10 : decode cX4_nearest 10 = .ok (.ifCond .ne 5, 3) := dk_154 0 5 (dk_at dksX4_nearest_0 10 rfl rfl)
theorem dX4_nearest_13 : decode cX4_nearest 13 = .ok (.iconst 0, 1) := dk_3 (dk_at dksX4_nearest_0 13 rfl rfl)
theorem dX4_nearest_14 : decode cX4_nearest 14 = .ok (.ireturn, 1) := dk_172 (dk_at dksX4_nearest_0 14 rfl rfl)
theorem dX4_nearest_15 : decode cX4_nearest 15 = .ok (.iconst (-1), 1) := dk_2 (dk_at dksX4_nearest_0 15 rfl rfl)
theorem dX4_nearest_16 : decode cX4_nearest 16 = .ok (.istore_n 2, 1) := dk_61 (dk_at dksX4_nearest_0 16 rfl rfl)
theorem dX4_nearest_17 : decode cX4_nearest 17 = .ok (.iconst 0, 1) := dk_3 (dk_at dksX4_nearest_0 17 rfl rfl)
theorem dX4_nearest_18 : decode cX4_nearest 18 = .ok (.istore_n 3, 1) := dk_62 (dk_at dksX4_nearest_0 18 rfl rfl)
theorem dX4_nearest_19 : decode cX4_nearest 19 = .ok (.iload_n 3, 1) := dk_29 (dk_at dksX4_nearest_0 19 rfl rfl)
theorem dX4_nearest_20 : decode cX4_nearest 20 = .ok (.aload_n 0, 1) := dk_42 (dk_at dksX4_nearest_0 20 rfl rfl)
theorem dX4_nearest_21 : decode cX4_nearest 21 = .ok (.getfield 284, 3) := dk_180 1 28 (dk_at dksX4_nearest_0 21 rfl rfl)
theorem dX4_nearest_24 : decode cX4_nearest 24 = .ok (.if_icmp .ge 47, 3) := dk_162 0 47 (dk_at dksX4_nearest_1 0 rfl rfl)
theorem dX4_nearest_27 : decode cX4_nearest 27 = .ok (.iload_n 2, 1) := dk_28 (dk_at dksX4_nearest_1 3 rfl rfl)
theorem dX4_nearest_28 : decode cX4_nearest 28 = .ok (.iconst (-1), 1) := dk_2 (dk_at dksX4_nearest_1 4 rfl rfl)
theorem dX4_nearest_29 : decode cX4_nearest 29 = .ok (.if_icmp .eq 34, 3) := dk_159 0 34 (dk_at dksX4_nearest_1 5 rfl rfl)
theorem dX4_nearest_32 : decode cX4_nearest 32 = .ok (.aload_n 0, 1) := dk_42 (dk_at dksX4_nearest_1 8 rfl rfl)
theorem dX4_nearest_33 : decode cX4_nearest 33 = .ok (.aload_n 0, 1) := dk_42 (dk_at dksX4_nearest_1 9 rfl rfl)
theorem dX4_nearest_34 : decode cX4_nearest 34 = .ok (.getfield 66, 3) := dk_180 0 66 (dk_at dksX4_nearest_1 10 rfl rfl)
theorem dX4_nearest_37 : decode cX4_nearest 37 = .ok (.bipush 37, 2) := dk_16 37 (dk_at dksX4_nearest_1 13 rfl rfl)
theorem dX4_nearest_39 : decode cX4_nearest 39 = .ok (.iload_n 3, 1) := dk_29 (dk_at dksX4_nearest_1 15 rfl rfl)
theorem dX4_nearest_40 : decode cX4_nearest 40 = .ok (.iadd, 1) := dk_96 (dk_at dksX4_nearest_1 16 rfl rfl)
theorem dX4_nearest_41 : decode cX4_nearest 41 = .ok (.iaload, 1) := dk_46 (dk_at dksX4_nearest_1 17 rfl rfl)
theorem dX4_nearest_42 : decode cX4_nearest 42 = .ok (.iload_n 1, 1) := dk_27 (dk_at dksX4_nearest_1 18 rfl rfl)
theorem dX4_nearest_43 : decode cX4_nearest 43 = .ok (.invokevirtual 410, 3) := dk_182 1 154 (dk_at dksX4_nearest_1 19 rfl rfl)
theorem dX4_nearest_46 : decode cX4_nearest 46 = .ok (.aload_n 0, 1) := dk_42 (dk_at dksX4_nearest_1 22 rfl rfl)
theorem dX4_nearest_47 : decode cX4_nearest 47 = .ok (.aload_n 0, 1) := dk_42 (dk_at dksX4_nearest_1 23 rfl rfl)
theorem dX4_nearest_48 : decode cX4_nearest 48 = .ok (.getfield 66, 3) := dk_180 0 66 (dk_at dksX4_nearest_2 0 rfl rfl)
theorem dX4_nearest_51 : decode cX4_nearest 51 = .ok (.bipush 37, 2) := dk_16 37 (dk_at dksX4_nearest_2 3 rfl rfl)
theorem dX4_nearest_53 : decode cX4_nearest 53 = .ok (.iload_n 2, 1) := dk_28 (dk_at dksX4_nearest_2 5 rfl rfl)
theorem dX4_nearest_54 : decode cX4_nearest 54 = .ok (.iadd, 1) := dk_96 (dk_at dksX4_nearest_2 6 rfl rfl)
theorem dX4_nearest_55 : decode cX4_nearest 55 = .ok (.iaload, 1) := dk_46 (dk_at dksX4_nearest_2 7 rfl rfl)
theorem dX4_nearest_56 : decode cX4_nearest 56 = .ok (.iload_n 1, 1) := dk_27 (dk_at dksX4_nearest_2 8 rfl rfl)
theorem dX4_nearest_57 : decode cX4_nearest 57 = .ok (.invokevirtual 410, 3) := dk_182 1 154 (dk_at dksX4_nearest_2 9 rfl rfl)
theorem dX4_nearest_60 : decode cX4_nearest 60 = .ok (.if_icmp .ge 5, 3) := dk_162 0 5 (dk_at dksX4_nearest_2 12 rfl rfl)
theorem dX4_nearest_63 : decode cX4_nearest 63 = .ok (.iload_n 3, 1) := dk_29 (dk_at dksX4_nearest_2 15 rfl rfl)
theorem dX4_nearest_64 : decode cX4_nearest 64 = .ok (.istore_n 2, 1) := dk_61 (dk_at dksX4_nearest_2 16 rfl rfl)
theorem dX4_nearest_65 : decode cX4_nearest 65 = .ok (.iinc 3 1, 3) := dk_132 3 1 (dk_at dksX4_nearest_2 17 rfl rfl)
theorem dX4_nearest_68 : decode cX4_nearest 68 = .ok (.goto (-49), 3) := dk_167 255 207 (dk_at dksX4_nearest_2 20 rfl rfl)
theorem dX4_nearest_71 : decode cX4_nearest 71 = .ok (.iload_n 2, 1) := dk_28 (dk_at dksX4_nearest_2 23 rfl rfl)
theorem dX4_nearest_72 : decode cX4_nearest 72 = .ok (.ireturn, 1) := dk_172 (dk_at dksX4_nearest_3 0 rfl rfl)
abbrev cX4_far : ByteArray := prog_12_method_113_code
def yX4_far : MethodName := ⟨RX4, "far", "(II)I"⟩
def dkwX4_far_1 : List UInt8 := [182, 1, 154, 167, 0, 4, 3, 172]
abbrev dktX4_far_1 : List UInt8 := dkwX4_far_1 ++ []
def dkwX4_far_0 : List UInt8 := [42, 3, 181, 0, 117, 42, 27, 182, 1, 119, 153, 0, 20, 42, 28, 182, 1, 119, 153, 0, 12, 42, 27, 28]
abbrev dktX4_far_0 : List UInt8 := dkwX4_far_0 ++ dktX4_far_1
theorem dksX4_far_0 : cX4_far.data.toList.drop 0 = dktX4_far_0 := by decide +kernel
theorem dksX4_far_1 : cX4_far.data.toList.drop 24 = dktX4_far_1 := dk_seg dksX4_far_0 24 rfl rfl
theorem dX4_far_0 : decode cX4_far 0 = .ok (.aload_n 0, 1) := dk_42 (dk_at dksX4_far_0 0 rfl rfl)
theorem dX4_far_1 : decode cX4_far 1 = .ok (.iconst 0, 1) := dk_3 (dk_at dksX4_far_0 1 rfl rfl)
theorem dX4_far_2 : decode cX4_far 2 = .ok (.putfield 117, 3) := dk_181 0 117 (dk_at dksX4_far_0 2 rfl rfl)
theorem dX4_far_5 : decode cX4_far 5 = .ok (.aload_n 0, 1) := dk_42 (dk_at dksX4_far_0 5 rfl rfl)
theorem dX4_far_6 : decode cX4_far 6 = .ok (.iload_n 1, 1) := dk_27 (dk_at dksX4_far_0 6 rfl rfl)
theorem dX4_far_7 : decode cX4_far 7 = .ok (.invokevirtual 375, 3) := dk_182 1 119 (dk_at dksX4_far_0 7 rfl rfl)
theorem dX4_far_10 : decode cX4_far 10 = .ok (.ifCond .eq 20, 3) := dk_153 0 20 (dk_at dksX4_far_0 10 rfl rfl)
theorem dX4_far_13 : decode cX4_far 13 = .ok (.aload_n 0, 1) := dk_42 (dk_at dksX4_far_0 13 rfl rfl)
theorem dX4_far_14 : decode cX4_far 14 = .ok (.iload_n 2, 1) := dk_28 (dk_at dksX4_far_0 14 rfl rfl)
theorem dX4_far_15 : decode cX4_far 15 = .ok (.invokevirtual 375, 3) := dk_182 1 119 (dk_at dksX4_far_0 15 rfl rfl)
theorem dX4_far_18 : decode cX4_far 18 = .ok (.ifCond .eq 12, 3) := dk_153 0 12 (dk_at dksX4_far_0 18 rfl rfl)
theorem dX4_far_21 : decode cX4_far 21 = .ok (.aload_n 0, 1) := dk_42 (dk_at dksX4_far_0 21 rfl rfl)
theorem dX4_far_22 : decode cX4_far 22 = .ok (.iload_n 1, 1) := dk_27 (dk_at dksX4_far_0 22 rfl rfl)
theorem dX4_far_23 : decode cX4_far 23 = .ok (.iload_n 2, 1) := dk_28 (dk_at dksX4_far_0 23 rfl rfl)
theorem dX4_far_24 : decode cX4_far 24 = .ok (.invokevirtual 410, 3) := dk_182 1 154 (dk_at dksX4_far_1 0 rfl rfl)
theorem dX4_far_27 : decode cX4_far 27 = .ok (.goto 4, 3) := dk_167 0 4 (dk_at dksX4_far_1 3 rfl rfl)
theorem dX4_far_30 : decode cX4_far 30 = .ok (.iconst 0, 1) := dk_3 (dk_at dksX4_far_1 6 rfl rfl)
theorem dX4_far_31 : decode cX4_far 31 = .ok (.ireturn, 1) := dk_172 (dk_at dksX4_far_1 7 rfl rfl)
abbrev cX4_worst : ByteArray := prog_12_method_114_code
def yX4_worst : MethodName := ⟨RX4, "worst", "(I)I"⟩
def dkwX4_worst_4 : List UInt8 := [62, 132, 4, 1, 167, 255, 186, 28, 172]
abbrev dktX4_worst_4 : List UInt8 := dkwX4_worst_4 ++ []
def dkwX4_worst_3 : List UInt8 := [16, 49, 182, 1, 110, 184, 1, 64, 54, 5, 21, 5, 29, 163, 0, 6, 167, 0, 9, 21, 4, 61, 21, 5]
abbrev dktX4_worst_3 : List UInt8 := dkwX4_worst_3 ++ dktX4_worst_4
def dkwX4_worst_2 : List UInt8 := [167, 0, 48, 42, 182, 1, 134, 42, 16, 49, 21, 4, 27, 182, 1, 93, 42, 16, 7, 182, 1, 137, 42]
abbrev dktX4_worst_2 : List UInt8 := dkwX4_worst_2 ++ dktX4_worst_3
def dkwX4_worst_1 : List UInt8 := [2, 62, 3, 54, 4, 21, 4, 42, 180, 0, 7, 162, 0, 67, 42, 3, 21, 4, 182, 1, 70, 153, 0, 6]
abbrev dktX4_worst_1 : List UInt8 := dkwX4_worst_1 ++ dktX4_worst_2
def dkwX4_worst_0 : List UInt8 := [42, 3, 181, 0, 117, 42, 27, 4, 16, 50, 184, 1, 106, 4, 182, 1, 21, 154, 0, 5, 3, 172, 2, 61]
abbrev dktX4_worst_0 : List UInt8 := dkwX4_worst_0 ++ dktX4_worst_1
theorem dksX4_worst_0 : cX4_worst.data.toList.drop 0 = dktX4_worst_0 := by decide +kernel
theorem dksX4_worst_1 : cX4_worst.data.toList.drop 24 = dktX4_worst_1 := dk_seg dksX4_worst_0 24 rfl rfl
theorem dksX4_worst_2 : cX4_worst.data.toList.drop 48 = dktX4_worst_2 := dk_seg dksX4_worst_1 24 rfl rfl
theorem dksX4_worst_3 : cX4_worst.data.toList.drop 71 = dktX4_worst_3 := dk_seg dksX4_worst_2 23 rfl rfl
theorem dksX4_worst_4 : cX4_worst.data.toList.drop 95 = dktX4_worst_4 := dk_seg dksX4_worst_3 24 rfl rfl
theorem dX4_worst_0 : decode cX4_worst 0 = .ok (.aload_n 0, 1) := dk_42 (dk_at dksX4_worst_0 0 rfl rfl)
theorem dX4_worst_1 : decode cX4_worst 1 = .ok (.iconst 0, 1) := dk_3 (dk_at dksX4_worst_0 1 rfl rfl)
theorem dX4_worst_2 : decode cX4_worst 2 = .ok (.putfield 117, 3) := dk_181 0 117 (dk_at dksX4_worst_0 2 rfl rfl)
theorem dX4_worst_5 : decode cX4_worst 5 = .ok (.aload_n 0, 1) := dk_42 (dk_at dksX4_worst_0 5 rfl rfl)
theorem dX4_worst_6 : decode cX4_worst 6 = .ok (.iload_n 1, 1) := dk_27 (dk_at dksX4_worst_0 6 rfl rfl)
theorem dX4_worst_7 : decode cX4_worst 7 = .ok (.iconst 1, 1) := dk_4 (dk_at dksX4_worst_0 7 rfl rfl)
theorem dX4_worst_8 : decode cX4_worst 8 = .ok (.bipush 50, 2) := dk_16 50 (dk_at dksX4_worst_0 8 rfl rfl)
theorem dX4_worst_10 : decode cX4_worst 10 = .ok (.invokestatic 362, 3) := dk_184 1 106 (dk_at dksX4_worst_0 10 rfl rfl)
theorem dX4_worst_13 : decode cX4_worst 13 = .ok (.iconst 1, 1) := dk_4 (dk_at dksX4_worst_0 13 rfl rfl)
theorem dX4_worst_14 : decode cX4_worst 14 = .ok (.invokevirtual 277, 3) := dk_182 1 21 (dk_at dksX4_worst_0 14 rfl rfl)
theorem dX4_worst_17 : decode cX4_worst 17 = .ok (.ifCond .ne 5, 3) := dk_154 0 5 (dk_at dksX4_worst_0 17 rfl rfl)
theorem dX4_worst_20 : decode cX4_worst 20 = .ok (.iconst 0, 1) := dk_3 (dk_at dksX4_worst_0 20 rfl rfl)
theorem dX4_worst_21 : decode cX4_worst 21 = .ok (.ireturn, 1) := dk_172 (dk_at dksX4_worst_0 21 rfl rfl)
theorem dX4_worst_22 : decode cX4_worst 22 = .ok (.iconst (-1), 1) := dk_2 (dk_at dksX4_worst_0 22 rfl rfl)
theorem dX4_worst_23 : decode cX4_worst 23 = .ok (.istore_n 2, 1) := dk_61 (dk_at dksX4_worst_0 23 rfl rfl)
theorem dX4_worst_24 : decode cX4_worst 24 = .ok (.iconst (-1), 1) := dk_2 (dk_at dksX4_worst_1 0 rfl rfl)
theorem dX4_worst_25 : decode cX4_worst 25 = .ok (.istore_n 3, 1) := dk_62 (dk_at dksX4_worst_1 1 rfl rfl)
theorem dX4_worst_26 : decode cX4_worst 26 = .ok (.iconst 0, 1) := dk_3 (dk_at dksX4_worst_1 2 rfl rfl)
theorem dX4_worst_27 : decode cX4_worst 27 = .ok (.istore 4, 2) := dk_54 4 (dk_at dksX4_worst_1 3 rfl rfl)
theorem dX4_worst_29 : decode cX4_worst 29 = .ok (.iload 4, 2) := dk_21 4 (dk_at dksX4_worst_1 5 rfl rfl)
theorem dX4_worst_31 : decode cX4_worst 31 = .ok (.aload_n 0, 1) := dk_42 (dk_at dksX4_worst_1 7 rfl rfl)
theorem dX4_worst_32 : decode cX4_worst 32 = .ok (.getfield 7, 3) := dk_180 0 7 (dk_at dksX4_worst_1 8 rfl rfl)
theorem dX4_worst_35 : decode cX4_worst 35 = .ok (.if_icmp .ge 67, 3) := dk_162 0 67 (dk_at dksX4_worst_1 11 rfl rfl)
theorem dX4_worst_38 : decode cX4_worst 38 = .ok (.aload_n 0, 1) := dk_42 (dk_at dksX4_worst_1 14 rfl rfl)
theorem dX4_worst_39 : decode cX4_worst 39 = .ok (.iconst 0, 1) := dk_3 (dk_at dksX4_worst_1 15 rfl rfl)
theorem dX4_worst_40 : decode cX4_worst 40 = .ok (.iload 4, 2) := dk_21 4 (dk_at dksX4_worst_1 16 rfl rfl)
theorem dX4_worst_42 : decode cX4_worst 42 = .ok (.invokevirtual 326, 3) := dk_182 1 70 (dk_at dksX4_worst_1 18 rfl rfl)
theorem dX4_worst_45 : decode cX4_worst 45 = .ok (.ifCond .eq 6, 3) := dk_153 0 6 (dk_at dksX4_worst_1 21 rfl rfl)
theorem dX4_worst_48 : decode cX4_worst 48 = .ok (.goto 48, 3) := dk_167 0 48 (dk_at dksX4_worst_2 0 rfl rfl)
theorem dX4_worst_51 : decode cX4_worst 51 = .ok (.aload_n 0, 1) := dk_42 (dk_at dksX4_worst_2 3 rfl rfl)
theorem dX4_worst_52 : decode cX4_worst 52 = .ok (.invokevirtual 390, 3) := dk_182 1 134 (dk_at dksX4_worst_2 4 rfl rfl)
theorem dX4_worst_55 : decode cX4_worst 55 = .ok (.aload_n 0, 1) := dk_42 (dk_at dksX4_worst_2 7 rfl rfl)
theorem dX4_worst_56 : decode cX4_worst 56 = .ok (.bipush 49, 2) := dk_16 49 (dk_at dksX4_worst_2 8 rfl rfl)
theorem dX4_worst_58 : decode cX4_worst 58 = .ok (.iload 4, 2) := dk_21 4 (dk_at dksX4_worst_2 10 rfl rfl)
theorem dX4_worst_60 : decode cX4_worst 60 = .ok (.iload_n 1, 1) := dk_27 (dk_at dksX4_worst_2 12 rfl rfl)
theorem dX4_worst_61 : decode cX4_worst 61 = .ok (.invokevirtual 349, 3) := dk_182 1 93 (dk_at dksX4_worst_2 13 rfl rfl)
theorem dX4_worst_64 : decode cX4_worst 64 = .ok (.aload_n 0, 1) := dk_42 (dk_at dksX4_worst_2 16 rfl rfl)
theorem dX4_worst_65 : decode cX4_worst 65 = .ok (.bipush 7, 2) := dk_16 7 (dk_at dksX4_worst_2 17 rfl rfl)
theorem dX4_worst_67 : decode cX4_worst 67 = .ok (.invokevirtual 393, 3) := dk_182 1 137 (dk_at dksX4_worst_2 19 rfl rfl)
theorem dX4_worst_70 : decode cX4_worst 70 = .ok (.aload_n 0, 1) := dk_42 (dk_at dksX4_worst_2 22 rfl rfl)
theorem dX4_worst_71 : decode cX4_worst 71 = .ok (.bipush 49, 2) := dk_16 49 (dk_at dksX4_worst_3 0 rfl rfl)
theorem dX4_worst_73 : decode cX4_worst 73 = .ok (.invokevirtual 366, 3) := dk_182 1 110 (dk_at dksX4_worst_3 2 rfl rfl)
theorem dX4_worst_76 : decode cX4_worst 76 = .ok (.invokestatic 320, 3) := dk_184 1 64 (dk_at dksX4_worst_3 5 rfl rfl)
theorem dX4_worst_79 : decode cX4_worst 79 = .ok (.istore 5, 2) := dk_54 5 (dk_at dksX4_worst_3 8 rfl rfl)
theorem dX4_worst_81 : decode cX4_worst 81 = .ok (.iload 5, 2) := dk_21 5 (dk_at dksX4_worst_3 10 rfl rfl)
theorem dX4_worst_83 : decode cX4_worst 83 = .ok (.iload_n 3, 1) := dk_29 (dk_at dksX4_worst_3 12 rfl rfl)
theorem dX4_worst_84 : decode cX4_worst 84 = .ok (.if_icmp .gt 6, 3) := dk_163 0 6 (dk_at dksX4_worst_3 13 rfl rfl)
theorem dX4_worst_87 : decode cX4_worst 87 = .ok (.goto 9, 3) := dk_167 0 9 (dk_at dksX4_worst_3 16 rfl rfl)
theorem dX4_worst_90 : decode cX4_worst 90 = .ok (.iload 4, 2) := dk_21 4 (dk_at dksX4_worst_3 19 rfl rfl)
theorem dX4_worst_92 : decode cX4_worst 92 = .ok (.istore_n 2, 1) := dk_61 (dk_at dksX4_worst_3 21 rfl rfl)
theorem dX4_worst_93 : decode cX4_worst 93 = .ok (.iload 5, 2) := dk_21 5 (dk_at dksX4_worst_3 22 rfl rfl)
theorem dX4_worst_95 : decode cX4_worst 95 = .ok (.istore_n 3, 1) := dk_62 (dk_at dksX4_worst_4 0 rfl rfl)
theorem dX4_worst_96 : decode cX4_worst 96 = .ok (.iinc 4 1, 3) := dk_132 4 1 (dk_at dksX4_worst_4 1 rfl rfl)
theorem dX4_worst_99 : decode cX4_worst 99 = .ok (.goto (-70), 3) := dk_167 255 186 (dk_at dksX4_worst_4 4 rfl rfl)
theorem dX4_worst_102 : decode cX4_worst 102 = .ok (.iload_n 2, 1) := dk_28 (dk_at dksX4_worst_4 7 rfl rfl)
theorem dX4_worst_103 : decode cX4_worst 103 = .ok (.ireturn, 1) := dk_172 (dk_at dksX4_worst_4 8 rfl rfl)
abbrev cX4_meet : ByteArray := prog_12_method_115_code
def yX4_meet : MethodName := ⟨RX4, "meet", "(II)I"⟩
def dkwX4_meet_3 : List UInt8 := [167, 255, 213, 2, 172]
abbrev dktX4_meet_3 : List UInt8 := dkwX4_meet_3 ++ []
def dkwX4_meet_2 : List UInt8 := [46, 42, 180, 0, 66, 16, 86, 28, 96, 46, 160, 0, 5, 29, 172, 42, 16, 49, 182, 1, 103, 132, 3, 1]
abbrev dktX4_meet_2 : List UInt8 := dkwX4_meet_2 ++ dktX4_meet_3
def dkwX4_meet_1 : List UInt8 := [182, 1, 134, 3, 62, 29, 16, 60, 163, 0, 43, 27, 28, 159, 0, 38, 42, 180, 0, 66, 16, 86, 27, 96]
abbrev dktX4_meet_1 : List UInt8 := dkwX4_meet_1 ++ dktX4_meet_2
def dkwX4_meet_0 : List UInt8 := [42, 3, 181, 0, 117, 42, 27, 182, 1, 125, 153, 0, 11, 42, 28, 182, 1, 125, 154, 0, 5, 3, 172, 42]
abbrev dktX4_meet_0 : List UInt8 := dkwX4_meet_0 ++ dktX4_meet_1
theorem dksX4_meet_0 : cX4_meet.data.toList.drop 0 = dktX4_meet_0 := by decide +kernel
theorem dksX4_meet_1 : cX4_meet.data.toList.drop 24 = dktX4_meet_1 := dk_seg dksX4_meet_0 24 rfl rfl
theorem dksX4_meet_2 : cX4_meet.data.toList.drop 48 = dktX4_meet_2 := dk_seg dksX4_meet_1 24 rfl rfl
theorem dksX4_meet_3 : cX4_meet.data.toList.drop 72 = dktX4_meet_3 := dk_seg dksX4_meet_2 24 rfl rfl
theorem dX4_meet_0 : decode cX4_meet 0 = .ok (.aload_n 0, 1) := dk_42 (dk_at dksX4_meet_0 0 rfl rfl)
theorem dX4_meet_1 : decode cX4_meet 1 = .ok (.iconst 0, 1) := dk_3 (dk_at dksX4_meet_0 1 rfl rfl)
theorem dX4_meet_2 : decode cX4_meet 2 = .ok (.putfield 117, 3) := dk_181 0 117 (dk_at dksX4_meet_0 2 rfl rfl)
theorem dX4_meet_5 : decode cX4_meet 5 = .ok (.aload_n 0, 1) := dk_42 (dk_at dksX4_meet_0 5 rfl rfl)
theorem dX4_meet_6 : decode cX4_meet 6 = .ok (.iload_n 1, 1) := dk_27 (dk_at dksX4_meet_0 6 rfl rfl)
theorem dX4_meet_7 : decode cX4_meet 7 = .ok (.invokevirtual 381, 3) := dk_182 1 125 (dk_at dksX4_meet_0 7 rfl rfl)
theorem dX4_meet_10 : decode cX4_meet 10 = .ok (.ifCond .eq 11, 3) := dk_153 0 11 (dk_at dksX4_meet_0 10 rfl rfl)
theorem dX4_meet_13 : decode cX4_meet 13 = .ok (.aload_n 0, 1) := dk_42 (dk_at dksX4_meet_0 13 rfl rfl)
theorem dX4_meet_14 : decode cX4_meet 14 = .ok (.iload_n 2, 1) := dk_28 (dk_at dksX4_meet_0 14 rfl rfl)
theorem dX4_meet_15 : decode cX4_meet 15 = .ok (.invokevirtual 381, 3) := dk_182 1 125 (dk_at dksX4_meet_0 15 rfl rfl)
theorem dX4_meet_18 : decode cX4_meet 18 = .ok (.ifCond .ne 5, 3) := dk_154 0 5 (dk_at dksX4_meet_0 18 rfl rfl)
theorem dX4_meet_21 : decode cX4_meet 21 = .ok (.iconst 0, 1) := dk_3 (dk_at dksX4_meet_0 21 rfl rfl)
theorem dX4_meet_22 : decode cX4_meet 22 = .ok (.ireturn, 1) := dk_172 (dk_at dksX4_meet_0 22 rfl rfl)
theorem dX4_meet_23 : decode cX4_meet 23 = .ok (.aload_n 0, 1) := dk_42 (dk_at dksX4_meet_0 23 rfl rfl)
theorem dX4_meet_24 : decode cX4_meet 24 = .ok (.invokevirtual 390, 3) := dk_182 1 134 (dk_at dksX4_meet_1 0 rfl rfl)
theorem dX4_meet_27 : decode cX4_meet 27 = .ok (.iconst 0, 1) := dk_3 (dk_at dksX4_meet_1 3 rfl rfl)
theorem dX4_meet_28 : decode cX4_meet 28 = .ok (.istore_n 3, 1) := dk_62 (dk_at dksX4_meet_1 4 rfl rfl)
theorem dX4_meet_29 : decode cX4_meet 29 = .ok (.iload_n 3, 1) := dk_29 (dk_at dksX4_meet_1 5 rfl rfl)
theorem dX4_meet_30 : decode cX4_meet 30 = .ok (.bipush 60, 2) := dk_16 60 (dk_at dksX4_meet_1 6 rfl rfl)
theorem dX4_meet_32 : decode cX4_meet 32 = .ok (.if_icmp .gt 43, 3) := dk_163 0 43 (dk_at dksX4_meet_1 8 rfl rfl)
theorem dX4_meet_35 : decode cX4_meet 35 = .ok (.iload_n 1, 1) := dk_27 (dk_at dksX4_meet_1 11 rfl rfl)
theorem dX4_meet_36 : decode cX4_meet 36 = .ok (.iload_n 2, 1) := dk_28 (dk_at dksX4_meet_1 12 rfl rfl)
theorem dX4_meet_37 : decode cX4_meet 37 = .ok (.if_icmp .eq 38, 3) := dk_159 0 38 (dk_at dksX4_meet_1 13 rfl rfl)
theorem dX4_meet_40 : decode cX4_meet 40 = .ok (.aload_n 0, 1) := dk_42 (dk_at dksX4_meet_1 16 rfl rfl)
theorem dX4_meet_41 : decode cX4_meet 41 = .ok (.getfield 66, 3) := dk_180 0 66 (dk_at dksX4_meet_1 17 rfl rfl)
theorem dX4_meet_44 : decode cX4_meet 44 = .ok (.bipush 86, 2) := dk_16 86 (dk_at dksX4_meet_1 20 rfl rfl)
theorem dX4_meet_46 : decode cX4_meet 46 = .ok (.iload_n 1, 1) := dk_27 (dk_at dksX4_meet_1 22 rfl rfl)
theorem dX4_meet_47 : decode cX4_meet 47 = .ok (.iadd, 1) := dk_96 (dk_at dksX4_meet_1 23 rfl rfl)
theorem dX4_meet_48 : decode cX4_meet 48 = .ok (.iaload, 1) := dk_46 (dk_at dksX4_meet_2 0 rfl rfl)
theorem dX4_meet_49 : decode cX4_meet 49 = .ok (.aload_n 0, 1) := dk_42 (dk_at dksX4_meet_2 1 rfl rfl)
theorem dX4_meet_50 : decode cX4_meet 50 = .ok (.getfield 66, 3) := dk_180 0 66 (dk_at dksX4_meet_2 2 rfl rfl)
theorem dX4_meet_53 : decode cX4_meet 53 = .ok (.bipush 86, 2) := dk_16 86 (dk_at dksX4_meet_2 5 rfl rfl)
theorem dX4_meet_55 : decode cX4_meet 55 = .ok (.iload_n 2, 1) := dk_28 (dk_at dksX4_meet_2 7 rfl rfl)
theorem dX4_meet_56 : decode cX4_meet 56 = .ok (.iadd, 1) := dk_96 (dk_at dksX4_meet_2 8 rfl rfl)
theorem dX4_meet_57 : decode cX4_meet 57 = .ok (.iaload, 1) := dk_46 (dk_at dksX4_meet_2 9 rfl rfl)
theorem dX4_meet_58 : decode cX4_meet 58 = .ok (.if_icmp .ne 5, 3) := dk_160 0 5 (dk_at dksX4_meet_2 10 rfl rfl)
theorem dX4_meet_61 : decode cX4_meet 61 = .ok (.iload_n 3, 1) := dk_29 (dk_at dksX4_meet_2 13 rfl rfl)
theorem dX4_meet_62 : decode cX4_meet 62 = .ok (.ireturn, 1) := dk_172 (dk_at dksX4_meet_2 14 rfl rfl)
theorem dX4_meet_63 : decode cX4_meet 63 = .ok (.aload_n 0, 1) := dk_42 (dk_at dksX4_meet_2 15 rfl rfl)
theorem dX4_meet_64 : decode cX4_meet 64 = .ok (.bipush 49, 2) := dk_16 49 (dk_at dksX4_meet_2 16 rfl rfl)
theorem dX4_meet_66 : decode cX4_meet 66 = .ok (.invokevirtual 359, 3) := dk_182 1 103 (dk_at dksX4_meet_2 18 rfl rfl)
theorem dX4_meet_69 : decode cX4_meet 69 = .ok (.iinc 3 1, 3) := dk_132 3 1 (dk_at dksX4_meet_2 21 rfl rfl)
theorem dX4_meet_72 : decode cX4_meet 72 = .ok (.goto (-43), 3) := dk_167 255 213 (dk_at dksX4_meet_3 0 rfl rfl)
theorem dX4_meet_75 : decode cX4_meet 75 = .ok (.iconst (-1), 1) := dk_2 (dk_at dksX4_meet_3 3 rfl rfl)
theorem dX4_meet_76 : decode cX4_meet 76 = .ok (.ireturn, 1) := dk_172 (dk_at dksX4_meet_3 4 rfl rfl)
abbrev cX4_bare : ByteArray := prog_12_method_116_code
def yX4_bare : MethodName := ⟨RX4, "bare", "(I)I"⟩
def dkwX4_bare_2 : List UInt8 := [29, 120, 167, 0, 4, 3, 128, 61, 132, 3, 1, 167, 255, 223, 28, 172]
abbrev dktX4_bare_2 : List UInt8 := dkwX4_bare_2 ++ []
def dkwX4_bare_1 : List UInt8 := [3, 62, 29, 42, 180, 1, 28, 162, 0, 31, 28, 42, 180, 0, 66, 16, 92, 29, 96, 46, 154, 0, 9, 4]
abbrev dktX4_bare_1 : List UInt8 := dkwX4_bare_1 ++ dktX4_bare_2
def dkwX4_bare_0 : List UInt8 := [42, 3, 181, 0, 117, 42, 27, 3, 4, 182, 1, 140, 154, 0, 5, 3, 172, 42, 27, 182, 1, 143, 3, 61]
abbrev dktX4_bare_0 : List UInt8 := dkwX4_bare_0 ++ dktX4_bare_1
theorem dksX4_bare_0 : cX4_bare.data.toList.drop 0 = dktX4_bare_0 := by decide +kernel
theorem dksX4_bare_1 : cX4_bare.data.toList.drop 24 = dktX4_bare_1 := dk_seg dksX4_bare_0 24 rfl rfl
theorem dksX4_bare_2 : cX4_bare.data.toList.drop 48 = dktX4_bare_2 := dk_seg dksX4_bare_1 24 rfl rfl
theorem dX4_bare_0 : decode cX4_bare 0 = .ok (.aload_n 0, 1) := dk_42 (dk_at dksX4_bare_0 0 rfl rfl)
theorem dX4_bare_1 : decode cX4_bare 1 = .ok (.iconst 0, 1) := dk_3 (dk_at dksX4_bare_0 1 rfl rfl)
theorem dX4_bare_2 : decode cX4_bare 2 = .ok (.putfield 117, 3) := dk_181 0 117 (dk_at dksX4_bare_0 2 rfl rfl)
theorem dX4_bare_5 : decode cX4_bare 5 = .ok (.aload_n 0, 1) := dk_42 (dk_at dksX4_bare_0 5 rfl rfl)
theorem dX4_bare_6 : decode cX4_bare 6 = .ok (.iload_n 1, 1) := dk_27 (dk_at dksX4_bare_0 6 rfl rfl)
theorem dX4_bare_7 : decode cX4_bare 7 = .ok (.iconst 0, 1) := dk_3 (dk_at dksX4_bare_0 7 rfl rfl)
theorem dX4_bare_8 : decode cX4_bare 8 = .ok (.iconst 1, 1) := dk_4 (dk_at dksX4_bare_0 8 rfl rfl)
theorem dX4_bare_9 : decode cX4_bare 9 = .ok (.invokevirtual 396, 3) := dk_182 1 140 (dk_at dksX4_bare_0 9 rfl rfl)
theorem dX4_bare_12 : decode cX4_bare 12 = .ok (.ifCond .ne 5, 3) := dk_154 0 5 (dk_at dksX4_bare_0 12 rfl rfl)
theorem dX4_bare_15 : decode cX4_bare 15 = .ok (.iconst 0, 1) := dk_3 (dk_at dksX4_bare_0 15 rfl rfl)
theorem dX4_bare_16 : decode cX4_bare 16 = .ok (.ireturn, 1) := dk_172 (dk_at dksX4_bare_0 16 rfl rfl)
theorem dX4_bare_17 : decode cX4_bare 17 = .ok (.aload_n 0, 1) := dk_42 (dk_at dksX4_bare_0 17 rfl rfl)
theorem dX4_bare_18 : decode cX4_bare 18 = .ok (.iload_n 1, 1) := dk_27 (dk_at dksX4_bare_0 18 rfl rfl)
theorem dX4_bare_19 : decode cX4_bare 19 = .ok (.invokevirtual 399, 3) := dk_182 1 143 (dk_at dksX4_bare_0 19 rfl rfl)
theorem dX4_bare_22 : decode cX4_bare 22 = .ok (.iconst 0, 1) := dk_3 (dk_at dksX4_bare_0 22 rfl rfl)
theorem dX4_bare_23 : decode cX4_bare 23 = .ok (.istore_n 2, 1) := dk_61 (dk_at dksX4_bare_0 23 rfl rfl)
theorem dX4_bare_24 : decode cX4_bare 24 = .ok (.iconst 0, 1) := dk_3 (dk_at dksX4_bare_1 0 rfl rfl)
theorem dX4_bare_25 : decode cX4_bare 25 = .ok (.istore_n 3, 1) := dk_62 (dk_at dksX4_bare_1 1 rfl rfl)
theorem dX4_bare_26 : decode cX4_bare 26 = .ok (.iload_n 3, 1) := dk_29 (dk_at dksX4_bare_1 2 rfl rfl)
theorem dX4_bare_27 : decode cX4_bare 27 = .ok (.aload_n 0, 1) := dk_42 (dk_at dksX4_bare_1 3 rfl rfl)
theorem dX4_bare_28 : decode cX4_bare 28 = .ok (.getfield 284, 3) := dk_180 1 28 (dk_at dksX4_bare_1 4 rfl rfl)
theorem dX4_bare_31 : decode cX4_bare 31 = .ok (.if_icmp .ge 31, 3) := dk_162 0 31 (dk_at dksX4_bare_1 7 rfl rfl)
theorem dX4_bare_34 : decode cX4_bare 34 = .ok (.iload_n 2, 1) := dk_28 (dk_at dksX4_bare_1 10 rfl rfl)
theorem dX4_bare_35 : decode cX4_bare 35 = .ok (.aload_n 0, 1) := dk_42 (dk_at dksX4_bare_1 11 rfl rfl)
theorem dX4_bare_36 : decode cX4_bare 36 = .ok (.getfield 66, 3) := dk_180 0 66 (dk_at dksX4_bare_1 12 rfl rfl)
theorem dX4_bare_39 : decode cX4_bare 39 = .ok (.bipush 92, 2) := dk_16 92 (dk_at dksX4_bare_1 15 rfl rfl)
theorem dX4_bare_41 : decode cX4_bare 41 = .ok (.iload_n 3, 1) := dk_29 (dk_at dksX4_bare_1 17 rfl rfl)
theorem dX4_bare_42 : decode cX4_bare 42 = .ok (.iadd, 1) := dk_96 (dk_at dksX4_bare_1 18 rfl rfl)
theorem dX4_bare_43 : decode cX4_bare 43 = .ok (.iaload, 1) := dk_46 (dk_at dksX4_bare_1 19 rfl rfl)
theorem dX4_bare_44 : decode cX4_bare 44 = .ok (.ifCond .ne 9, 3) := dk_154 0 9 (dk_at dksX4_bare_1 20 rfl rfl)
theorem dX4_bare_47 : decode cX4_bare 47 = .ok (.iconst 1, 1) := dk_4 (dk_at dksX4_bare_1 23 rfl rfl)
theorem dX4_bare_48 : decode cX4_bare 48 = .ok (.iload_n 3, 1) := dk_29 (dk_at dksX4_bare_2 0 rfl rfl)
theorem dX4_bare_49 : decode cX4_bare 49 = .ok (.ishl, 1) := dk_120 (dk_at dksX4_bare_2 1 rfl rfl)
theorem dX4_bare_50 : decode cX4_bare 50 = .ok (.goto 4, 3) := dk_167 0 4 (dk_at dksX4_bare_2 2 rfl rfl)
theorem dX4_bare_53 : decode cX4_bare 53 = .ok (.iconst 0, 1) := dk_3 (dk_at dksX4_bare_2 5 rfl rfl)
theorem dX4_bare_54 : decode cX4_bare 54 = .ok (.ior, 1) := dk_128 (dk_at dksX4_bare_2 6 rfl rfl)
theorem dX4_bare_55 : decode cX4_bare 55 = .ok (.istore_n 2, 1) := dk_61 (dk_at dksX4_bare_2 7 rfl rfl)
theorem dX4_bare_56 : decode cX4_bare 56 = .ok (.iinc 3 1, 3) := dk_132 3 1 (dk_at dksX4_bare_2 8 rfl rfl)
theorem dX4_bare_59 : decode cX4_bare 59 = .ok (.goto (-33), 3) := dk_167 255 223 (dk_at dksX4_bare_2 11 rfl rfl)
theorem dX4_bare_62 : decode cX4_bare 62 = .ok (.iload_n 2, 1) := dk_28 (dk_at dksX4_bare_2 14 rfl rfl)
theorem dX4_bare_63 : decode cX4_bare 63 = .ok (.ireturn, 1) := dk_172 (dk_at dksX4_bare_2 15 rfl rfl)
abbrev cX4_load : ByteArray := prog_12_method_117_code
def yX4_load : MethodName := ⟨RX4, "load", "(I)I"⟩
def dkwX4_load_4 : List UInt8 := [28, 172]
abbrev dktX4_load_4 : List UInt8 := dkwX4_load_4 ++ []
def dkwX4_load_3 : List UInt8 := [132, 3, 1, 167, 255, 209, 28, 154, 0, 17, 42, 180, 0, 66, 4, 46, 27, 161, 0, 7, 4, 167, 0, 4]
abbrev dktX4_load_3 : List UInt8 := dkwX4_load_3 ++ dktX4_load_4
def dkwX4_load_2 : List UInt8 := [180, 0, 66, 4, 42, 29, 182, 1, 52, 96, 46, 27, 162, 0, 7, 4, 167, 0, 4, 3, 96, 61]
abbrev dktX4_load_2 : List UInt8 := dkwX4_load_2 ++ dktX4_load_3
def dkwX4_load_1 : List UInt8 := [3, 62, 29, 42, 180, 0, 7, 162, 0, 45, 28, 42, 180, 0, 66, 4, 29, 96, 46, 27, 161, 0, 23, 42]
abbrev dktX4_load_1 : List UInt8 := dkwX4_load_1 ++ dktX4_load_2
def dkwX4_load_0 : List UInt8 := [42, 3, 181, 0, 117, 42, 27, 3, 16, 99, 184, 1, 106, 4, 182, 1, 21, 154, 0, 5, 3, 172, 3, 61]
abbrev dktX4_load_0 : List UInt8 := dkwX4_load_0 ++ dktX4_load_1
theorem dksX4_load_0 : cX4_load.data.toList.drop 0 = dktX4_load_0 := by decide +kernel
theorem dksX4_load_1 : cX4_load.data.toList.drop 24 = dktX4_load_1 := dk_seg dksX4_load_0 24 rfl rfl
theorem dksX4_load_2 : cX4_load.data.toList.drop 48 = dktX4_load_2 := dk_seg dksX4_load_1 24 rfl rfl
theorem dksX4_load_3 : cX4_load.data.toList.drop 70 = dktX4_load_3 := dk_seg dksX4_load_2 22 rfl rfl
theorem dksX4_load_4 : cX4_load.data.toList.drop 94 = dktX4_load_4 := dk_seg dksX4_load_3 24 rfl rfl
theorem dX4_load_0 : decode cX4_load 0 = .ok (.aload_n 0, 1) := dk_42 (dk_at dksX4_load_0 0 rfl rfl)
theorem dX4_load_1 : decode cX4_load 1 = .ok (.iconst 0, 1) := dk_3 (dk_at dksX4_load_0 1 rfl rfl)
theorem dX4_load_2 : decode cX4_load 2 = .ok (.putfield 117, 3) := dk_181 0 117 (dk_at dksX4_load_0 2 rfl rfl)
theorem dX4_load_5 : decode cX4_load 5 = .ok (.aload_n 0, 1) := dk_42 (dk_at dksX4_load_0 5 rfl rfl)
theorem dX4_load_6 : decode cX4_load 6 = .ok (.iload_n 1, 1) := dk_27 (dk_at dksX4_load_0 6 rfl rfl)
theorem dX4_load_7 : decode cX4_load 7 = .ok (.iconst 0, 1) := dk_3 (dk_at dksX4_load_0 7 rfl rfl)
theorem dX4_load_8 : decode cX4_load 8 = .ok (.bipush 99, 2) := dk_16 99 (dk_at dksX4_load_0 8 rfl rfl)
theorem dX4_load_10 : decode cX4_load 10 = .ok (.invokestatic 362, 3) := dk_184 1 106 (dk_at dksX4_load_0 10 rfl rfl)
theorem dX4_load_13 : decode cX4_load 13 = .ok (.iconst 1, 1) := dk_4 (dk_at dksX4_load_0 13 rfl rfl)
theorem dX4_load_14 : decode cX4_load 14 = .ok (.invokevirtual 277, 3) := dk_182 1 21 (dk_at dksX4_load_0 14 rfl rfl)
theorem dX4_load_17 : decode cX4_load 17 = .ok (.ifCond .ne 5, 3) := dk_154 0 5 (dk_at dksX4_load_0 17 rfl rfl)
theorem dX4_load_20 : decode cX4_load 20 = .ok (.iconst 0, 1) := dk_3 (dk_at dksX4_load_0 20 rfl rfl)
theorem dX4_load_21 : decode cX4_load 21 = .ok (.ireturn, 1) := dk_172 (dk_at dksX4_load_0 21 rfl rfl)
theorem dX4_load_22 : decode cX4_load 22 = .ok (.iconst 0, 1) := dk_3 (dk_at dksX4_load_0 22 rfl rfl)
theorem dX4_load_23 : decode cX4_load 23 = .ok (.istore_n 2, 1) := dk_61 (dk_at dksX4_load_0 23 rfl rfl)
theorem dX4_load_24 : decode cX4_load 24 = .ok (.iconst 0, 1) := dk_3 (dk_at dksX4_load_1 0 rfl rfl)
theorem dX4_load_25 : decode cX4_load 25 = .ok (.istore_n 3, 1) := dk_62 (dk_at dksX4_load_1 1 rfl rfl)
theorem dX4_load_26 : decode cX4_load 26 = .ok (.iload_n 3, 1) := dk_29 (dk_at dksX4_load_1 2 rfl rfl)
theorem dX4_load_27 : decode cX4_load 27 = .ok (.aload_n 0, 1) := dk_42 (dk_at dksX4_load_1 3 rfl rfl)
theorem dX4_load_28 : decode cX4_load 28 = .ok (.getfield 7, 3) := dk_180 0 7 (dk_at dksX4_load_1 4 rfl rfl)
theorem dX4_load_31 : decode cX4_load 31 = .ok (.if_icmp .ge 45, 3) := dk_162 0 45 (dk_at dksX4_load_1 7 rfl rfl)
theorem dX4_load_34 : decode cX4_load 34 = .ok (.iload_n 2, 1) := dk_28 (dk_at dksX4_load_1 10 rfl rfl)
theorem dX4_load_35 : decode cX4_load 35 = .ok (.aload_n 0, 1) := dk_42 (dk_at dksX4_load_1 11 rfl rfl)
theorem dX4_load_36 : decode cX4_load 36 = .ok (.getfield 66, 3) := dk_180 0 66 (dk_at dksX4_load_1 12 rfl rfl)
theorem dX4_load_39 : decode cX4_load 39 = .ok (.iconst 1, 1) := dk_4 (dk_at dksX4_load_1 15 rfl rfl)
theorem dX4_load_40 : decode cX4_load 40 = .ok (.iload_n 3, 1) := dk_29 (dk_at dksX4_load_1 16 rfl rfl)
theorem dX4_load_41 : decode cX4_load 41 = .ok (.iadd, 1) := dk_96 (dk_at dksX4_load_1 17 rfl rfl)
theorem dX4_load_42 : decode cX4_load 42 = .ok (.iaload, 1) := dk_46 (dk_at dksX4_load_1 18 rfl rfl)
theorem dX4_load_43 : decode cX4_load 43 = .ok (.iload_n 1, 1) := dk_27 (dk_at dksX4_load_1 19 rfl rfl)
theorem dX4_load_44 : decode cX4_load 44 = .ok (.if_icmp .lt 23, 3) := dk_161 0 23 (dk_at dksX4_load_1 20 rfl rfl)
theorem dX4_load_47 : decode cX4_load 47 = .ok (.aload_n 0, 1) := dk_42 (dk_at dksX4_load_1 23 rfl rfl)
theorem dX4_load_48 : decode cX4_load 48 = .ok (.getfield 66, 3) := dk_180 0 66 (dk_at dksX4_load_2 0 rfl rfl)
theorem dX4_load_51 : decode cX4_load 51 = .ok (.iconst 1, 1) := dk_4 (dk_at dksX4_load_2 3 rfl rfl)
theorem dX4_load_52 : decode cX4_load 52 = .ok (.aload_n 0, 1) := dk_42 (dk_at dksX4_load_2 4 rfl rfl)
theorem dX4_load_53 : decode cX4_load 53 = .ok (.iload_n 3, 1) := dk_29 (dk_at dksX4_load_2 5 rfl rfl)
theorem dX4_load_54 : decode cX4_load 54 = .ok (.invokevirtual 308, 3) := dk_182 1 52 (dk_at dksX4_load_2 6 rfl rfl)
theorem dX4_load_57 : decode cX4_load 57 = .ok (.iadd, 1) := dk_96 (dk_at dksX4_load_2 9 rfl rfl)
theorem dX4_load_58 : decode cX4_load 58 = .ok (.iaload, 1) := dk_46 (dk_at dksX4_load_2 10 rfl rfl)
theorem dX4_load_59 : decode cX4_load 59 = .ok (.iload_n 1, 1) := dk_27 (dk_at dksX4_load_2 11 rfl rfl)
theorem dX4_load_60 : decode cX4_load 60 = .ok (.if_icmp .ge 7, 3) := dk_162 0 7 (dk_at dksX4_load_2 12 rfl rfl)
theorem dX4_load_63 : decode cX4_load 63 = .ok (.iconst 1, 1) := dk_4 (dk_at dksX4_load_2 15 rfl rfl)
theorem dX4_load_64 : decode cX4_load 64 = .ok (.goto 4, 3) := dk_167 0 4 (dk_at dksX4_load_2 16 rfl rfl)
theorem dX4_load_67 : decode cX4_load 67 = .ok (.iconst 0, 1) := dk_3 (dk_at dksX4_load_2 19 rfl rfl)
theorem dX4_load_68 : decode cX4_load 68 = .ok (.iadd, 1) := dk_96 (dk_at dksX4_load_2 20 rfl rfl)
theorem dX4_load_69 : decode cX4_load 69 = .ok (.istore_n 2, 1) := dk_61 (dk_at dksX4_load_2 21 rfl rfl)
theorem dX4_load_70 : decode cX4_load 70 = .ok (.iinc 3 1, 3) := dk_132 3 1 (dk_at dksX4_load_3 0 rfl rfl)
theorem dX4_load_73 : decode cX4_load 73 = .ok (.goto (-47), 3) := dk_167 255 209 (dk_at dksX4_load_3 3 rfl rfl)
theorem dX4_load_76 : decode cX4_load 76 = .ok (.iload_n 2, 1) := dk_28 (dk_at dksX4_load_3 6 rfl rfl)
theorem dX4_load_77 : decode cX4_load 77 = .ok (.ifCond .ne 17, 3) := dk_154 0 17 (dk_at dksX4_load_3 7 rfl rfl)
theorem dX4_load_80 : decode cX4_load 80 = .ok (.aload_n 0, 1) := dk_42 (dk_at dksX4_load_3 10 rfl rfl)
theorem dX4_load_81 : decode cX4_load 81 = .ok (.getfield 66, 3) := dk_180 0 66 (dk_at dksX4_load_3 11 rfl rfl)
theorem dX4_load_84 : decode cX4_load 84 = .ok (.iconst 1, 1) := dk_4 (dk_at dksX4_load_3 14 rfl rfl)
theorem dX4_load_85 : decode cX4_load 85 = .ok (.iaload, 1) := dk_46 (dk_at dksX4_load_3 15 rfl rfl)
theorem dX4_load_86 : decode cX4_load 86 = .ok (.iload_n 1, 1) := dk_27 (dk_at dksX4_load_3 16 rfl rfl)
theorem dX4_load_87 : decode cX4_load 87 = .ok (.if_icmp .lt 7, 3) := dk_161 0 7 (dk_at dksX4_load_3 17 rfl rfl)
theorem dX4_load_90 : decode cX4_load 90 = .ok (.iconst 1, 1) := dk_4 (dk_at dksX4_load_3 20 rfl rfl)
theorem dX4_load_91 : decode cX4_load 91 = .ok (.goto 4, 3) := dk_167 0 4 (dk_at dksX4_load_3 21 rfl rfl)
theorem dX4_load_94 : decode cX4_load 94 = .ok (.iload_n 2, 1) := dk_28 (dk_at dksX4_load_4 0 rfl rfl)
theorem dX4_load_95 : decode cX4_load 95 = .ok (.ireturn, 1) := dk_172 (dk_at dksX4_load_4 1 rfl rfl)
abbrev cX4_image : ByteArray := prog_12_method_118_code
def yX4_image : MethodName := ⟨RX4, "image", "()V"⟩
def dkwX4_image_3 : List UInt8 := [180, 0, 114, 182, 1, 34, 177]
abbrev dktX4_image_3 : List UInt8 := dkwX4_image_3 ++ []
def dkwX4_image_2 : List UInt8 := [132, 1, 1, 167, 255, 235, 42, 42, 180, 0, 69, 42, 180, 0, 111, 182, 1, 34, 42, 42, 180, 0, 96, 42]
abbrev dktX4_image_2 : List UInt8 := dkwX4_image_2 ++ dktX4_image_3
def dkwX4_image_1 : List UInt8 := [181, 1, 190, 3, 60, 27, 16, 49, 162, 0, 21, 42, 180, 0, 108, 27, 42, 180, 0, 66, 27, 46, 79]
abbrev dktX4_image_1 : List UInt8 := dkwX4_image_1 ++ dktX4_image_2
def dkwX4_image_0 : List UInt8 := [42, 3, 181, 0, 117, 42, 4, 181, 1, 44, 42, 42, 180, 1, 38, 181, 1, 187, 42, 42, 180, 1, 41]
abbrev dktX4_image_0 : List UInt8 := dkwX4_image_0 ++ dktX4_image_1
theorem dksX4_image_0 : cX4_image.data.toList.drop 0 = dktX4_image_0 := by decide +kernel
theorem dksX4_image_1 : cX4_image.data.toList.drop 23 = dktX4_image_1 := dk_seg dksX4_image_0 23 rfl rfl
theorem dksX4_image_2 : cX4_image.data.toList.drop 46 = dktX4_image_2 := dk_seg dksX4_image_1 23 rfl rfl
theorem dksX4_image_3 : cX4_image.data.toList.drop 70 = dktX4_image_3 := dk_seg dksX4_image_2 24 rfl rfl
theorem dX4_image_0 : decode cX4_image 0 = .ok (.aload_n 0, 1) := dk_42 (dk_at dksX4_image_0 0 rfl rfl)
theorem dX4_image_1 : decode cX4_image 1 = .ok (.iconst 0, 1) := dk_3 (dk_at dksX4_image_0 1 rfl rfl)
theorem dX4_image_2 : decode cX4_image 2 = .ok (.putfield 117, 3) := dk_181 0 117 (dk_at dksX4_image_0 2 rfl rfl)
theorem dX4_image_5 : decode cX4_image 5 = .ok (.aload_n 0, 1) := dk_42 (dk_at dksX4_image_0 5 rfl rfl)
theorem dX4_image_6 : decode cX4_image 6 = .ok (.iconst 1, 1) := dk_4 (dk_at dksX4_image_0 6 rfl rfl)
theorem dX4_image_7 : decode cX4_image 7 = .ok (.putfield 300, 3) := dk_181 1 44 (dk_at dksX4_image_0 7 rfl rfl)
theorem dX4_image_10 : decode cX4_image 10 = .ok (.aload_n 0, 1) := dk_42 (dk_at dksX4_image_0 10 rfl rfl)
theorem dX4_image_11 : decode cX4_image 11 = .ok (.aload_n 0, 1) := dk_42 (dk_at dksX4_image_0 11 rfl rfl)
theorem dX4_image_12 : decode cX4_image 12 = .ok (.getfield 294, 3) := dk_180 1 38 (dk_at dksX4_image_0 12 rfl rfl)
theorem dX4_image_15 : decode cX4_image 15 = .ok (.putfield 443, 3) := dk_181 1 187 (dk_at dksX4_image_0 15 rfl rfl)
theorem dX4_image_18 : decode cX4_image 18 = .ok (.aload_n 0, 1) := dk_42 (dk_at dksX4_image_0 18 rfl rfl)
theorem dX4_image_19 : decode cX4_image 19 = .ok (.aload_n 0, 1) := dk_42 (dk_at dksX4_image_0 19 rfl rfl)
theorem dX4_image_20 : decode cX4_image 20 = .ok (.getfield 297, 3) := dk_180 1 41 (dk_at dksX4_image_0 20 rfl rfl)
theorem dX4_image_23 : decode cX4_image 23 = .ok (.putfield 446, 3) := dk_181 1 190 (dk_at dksX4_image_1 0 rfl rfl)
theorem dX4_image_26 : decode cX4_image 26 = .ok (.iconst 0, 1) := dk_3 (dk_at dksX4_image_1 3 rfl rfl)
theorem dX4_image_27 : decode cX4_image 27 = .ok (.istore_n 1, 1) := dk_60 (dk_at dksX4_image_1 4 rfl rfl)
theorem dX4_image_28 : decode cX4_image 28 = .ok (.iload_n 1, 1) := dk_27 (dk_at dksX4_image_1 5 rfl rfl)
theorem dX4_image_29 : decode cX4_image 29 = .ok (.bipush 49, 2) := dk_16 49 (dk_at dksX4_image_1 6 rfl rfl)
theorem dX4_image_31 : decode cX4_image 31 = .ok (.if_icmp .ge 21, 3) := dk_162 0 21 (dk_at dksX4_image_1 8 rfl rfl)
theorem dX4_image_34 : decode cX4_image 34 = .ok (.aload_n 0, 1) := dk_42 (dk_at dksX4_image_1 11 rfl rfl)
theorem dX4_image_35 : decode cX4_image 35 = .ok (.getfield 108, 3) := dk_180 0 108 (dk_at dksX4_image_1 12 rfl rfl)
theorem dX4_image_38 : decode cX4_image 38 = .ok (.iload_n 1, 1) := dk_27 (dk_at dksX4_image_1 15 rfl rfl)
theorem dX4_image_39 : decode cX4_image 39 = .ok (.aload_n 0, 1) := dk_42 (dk_at dksX4_image_1 16 rfl rfl)
theorem dX4_image_40 : decode cX4_image 40 = .ok (.getfield 66, 3) := dk_180 0 66 (dk_at dksX4_image_1 17 rfl rfl)
theorem dX4_image_43 : decode cX4_image 43 = .ok (.iload_n 1, 1) := dk_27 (dk_at dksX4_image_1 20 rfl rfl)
theorem dX4_image_44 : decode cX4_image 44 = .ok (.iaload, 1) := dk_46 (dk_at dksX4_image_1 21 rfl rfl)
theorem dX4_image_45 : decode cX4_image 45 = .ok (.iastore, 1) := dk_79 (dk_at dksX4_image_1 22 rfl rfl)
theorem dX4_image_46 : decode cX4_image 46 = .ok (.iinc 1 1, 3) := dk_132 1 1 (dk_at dksX4_image_2 0 rfl rfl)
theorem dX4_image_49 : decode cX4_image 49 = .ok (.goto (-21), 3) := dk_167 255 235 (dk_at dksX4_image_2 3 rfl rfl)
theorem dX4_image_52 : decode cX4_image 52 = .ok (.aload_n 0, 1) := dk_42 (dk_at dksX4_image_2 6 rfl rfl)
theorem dX4_image_53 : decode cX4_image 53 = .ok (.aload_n 0, 1) := dk_42 (dk_at dksX4_image_2 7 rfl rfl)
theorem dX4_image_54 : decode cX4_image 54 = .ok (.getfield 69, 3) := dk_180 0 69 (dk_at dksX4_image_2 8 rfl rfl)
theorem dX4_image_57 : decode cX4_image 57 = .ok (.aload_n 0, 1) := dk_42 (dk_at dksX4_image_2 11 rfl rfl)
theorem dX4_image_58 : decode cX4_image 58 = .ok (.getfield 111, 3) := dk_180 0 111 (dk_at dksX4_image_2 12 rfl rfl)
theorem dX4_image_61 : decode cX4_image 61 = .ok (.invokevirtual 290, 3) := dk_182 1 34 (dk_at dksX4_image_2 15 rfl rfl)
theorem dX4_image_64 : decode cX4_image 64 = .ok (.aload_n 0, 1) := dk_42 (dk_at dksX4_image_2 18 rfl rfl)
theorem dX4_image_65 : decode cX4_image 65 = .ok (.aload_n 0, 1) := dk_42 (dk_at dksX4_image_2 19 rfl rfl)
theorem dX4_image_66 : decode cX4_image 66 = .ok (.getfield 96, 3) := dk_180 0 96 (dk_at dksX4_image_2 20 rfl rfl)
theorem dX4_image_69 : decode cX4_image 69 = .ok (.aload_n 0, 1) := dk_42 (dk_at dksX4_image_2 23 rfl rfl)
theorem dX4_image_70 : decode cX4_image 70 = .ok (.getfield 114, 3) := dk_180 0 114 (dk_at dksX4_image_3 0 rfl rfl)
theorem dX4_image_73 : decode cX4_image 73 = .ok (.invokevirtual 290, 3) := dk_182 1 34 (dk_at dksX4_image_3 3 rfl rfl)
theorem dX4_image_76 : decode cX4_image 76 = .ok (.return_, 1) := dk_177 (dk_at dksX4_image_3 6 rfl rfl)
abbrev cX4_restore : ByteArray := prog_12_method_119_code
def yX4_restore : MethodName := ⟨RX4, "restore", "()Z"⟩
def dkwX4_restore_3 : List UInt8 := [180, 0, 114, 42, 180, 0, 96, 182, 1, 34, 4, 172]
abbrev dktX4_restore_3 : List UInt8 := dkwX4_restore_3 ++ []
def dkwX4_restore_2 : List UInt8 := [46, 79, 132, 1, 1, 167, 255, 235, 42, 42, 180, 0, 111, 42, 180, 0, 69, 182, 1, 34, 42, 42]
abbrev dktX4_restore_2 : List UInt8 := dkwX4_restore_2 ++ dktX4_restore_3
def dkwX4_restore_1 : List UInt8 := [180, 1, 190, 181, 1, 41, 3, 60, 27, 16, 49, 162, 0, 21, 42, 180, 0, 66, 27, 42, 180, 0, 108, 27]
abbrev dktX4_restore_1 : List UInt8 := dkwX4_restore_1 ++ dktX4_restore_2
def dkwX4_restore_0 : List UInt8 := [42, 3, 181, 0, 117, 42, 180, 1, 44, 154, 0, 5, 3, 172, 42, 42, 180, 1, 187, 181, 1, 38, 42, 42]
abbrev dktX4_restore_0 : List UInt8 := dkwX4_restore_0 ++ dktX4_restore_1
theorem dksX4_restore_0 : cX4_restore.data.toList.drop 0 = dktX4_restore_0 := by decide +kernel
theorem dksX4_restore_1 : cX4_restore.data.toList.drop 24 = dktX4_restore_1 := dk_seg dksX4_restore_0 24 rfl rfl
theorem dksX4_restore_2 : cX4_restore.data.toList.drop 48 = dktX4_restore_2 := dk_seg dksX4_restore_1 24 rfl rfl
theorem dksX4_restore_3 : cX4_restore.data.toList.drop 70 = dktX4_restore_3 := dk_seg dksX4_restore_2 22 rfl rfl
theorem dX4_restore_0 : decode cX4_restore 0 = .ok (.aload_n 0, 1) := dk_42 (dk_at dksX4_restore_0 0 rfl rfl)
theorem dX4_restore_1 : decode cX4_restore 1 = .ok (.iconst 0, 1) := dk_3 (dk_at dksX4_restore_0 1 rfl rfl)
theorem dX4_restore_2 : decode cX4_restore 2 = .ok (.putfield 117, 3) := dk_181 0 117 (dk_at dksX4_restore_0 2 rfl rfl)
theorem dX4_restore_5 : decode cX4_restore 5 = .ok (.aload_n 0, 1) := dk_42 (dk_at dksX4_restore_0 5 rfl rfl)
theorem dX4_restore_6 : decode cX4_restore 6 = .ok (.getfield 300, 3) := dk_180 1 44 (dk_at dksX4_restore_0 6 rfl rfl)
theorem dX4_restore_9 : decode cX4_restore 9 = .ok (.ifCond .ne 5, 3) := dk_154 0 5 (dk_at dksX4_restore_0 9 rfl rfl)
theorem dX4_restore_12 : decode cX4_restore 12 = .ok (.iconst 0, 1) := dk_3 (dk_at dksX4_restore_0 12 rfl rfl)
theorem dX4_restore_13 : decode cX4_restore 13 = .ok (.ireturn, 1) := dk_172 (dk_at dksX4_restore_0 13 rfl rfl)
theorem dX4_restore_14 : decode cX4_restore 14 = .ok (.aload_n 0, 1) := dk_42 (dk_at dksX4_restore_0 14 rfl rfl)
theorem dX4_restore_15 : decode cX4_restore 15 = .ok (.aload_n 0, 1) := dk_42 (dk_at dksX4_restore_0 15 rfl rfl)
theorem dX4_restore_16 : decode cX4_restore 16 = .ok (.getfield 443, 3) := dk_180 1 187 (dk_at dksX4_restore_0 16 rfl rfl)
theorem dX4_restore_19 : decode cX4_restore 19 = .ok (.putfield 294, 3) := dk_181 1 38 (dk_at dksX4_restore_0 19 rfl rfl)
theorem dX4_restore_22 : decode cX4_restore 22 = .ok (.aload_n 0, 1) := dk_42 (dk_at dksX4_restore_0 22 rfl rfl)
theorem dX4_restore_23 : decode cX4_restore 23 = .ok (.aload_n 0, 1) := dk_42 (dk_at dksX4_restore_0 23 rfl rfl)
theorem dX4_restore_24 : decode cX4_restore 24 = .ok (.getfield 446, 3) := dk_180 1 190 (dk_at dksX4_restore_1 0 rfl rfl)
theorem dX4_restore_27 : decode cX4_restore 27 = .ok (.putfield 297, 3) := dk_181 1 41 (dk_at dksX4_restore_1 3 rfl rfl)
theorem dX4_restore_30 : decode cX4_restore 30 = .ok (.iconst 0, 1) := dk_3 (dk_at dksX4_restore_1 6 rfl rfl)
theorem dX4_restore_31 : decode cX4_restore 31 = .ok (.istore_n 1, 1) := dk_60 (dk_at dksX4_restore_1 7 rfl rfl)
theorem dX4_restore_32 : decode cX4_restore 32 = .ok (.iload_n 1, 1) := dk_27 (dk_at dksX4_restore_1 8 rfl rfl)
theorem dX4_restore_33 : decode cX4_restore 33 = .ok (.bipush 49, 2) := dk_16 49 (dk_at dksX4_restore_1 9 rfl rfl)
theorem dX4_restore_35 : decode cX4_restore 35 = .ok (.if_icmp .ge 21, 3) := dk_162 0 21 (dk_at dksX4_restore_1 11 rfl rfl)
theorem dX4_restore_38 : decode cX4_restore 38 = .ok (.aload_n 0, 1) := dk_42 (dk_at dksX4_restore_1 14 rfl rfl)
theorem dX4_restore_39 : decode cX4_restore 39 = .ok (.getfield 66, 3) := dk_180 0 66 (dk_at dksX4_restore_1 15 rfl rfl)
theorem dX4_restore_42 : decode cX4_restore 42 = .ok (.iload_n 1, 1) := dk_27 (dk_at dksX4_restore_1 18 rfl rfl)
theorem dX4_restore_43 : decode cX4_restore 43 = .ok (.aload_n 0, 1) := dk_42 (dk_at dksX4_restore_1 19 rfl rfl)
theorem dX4_restore_44 : decode cX4_restore 44 = .ok (.getfield 108, 3) := dk_180 0 108 (dk_at dksX4_restore_1 20 rfl rfl)
theorem dX4_restore_47 : decode cX4_restore 47 = .ok (.iload_n 1, 1) := dk_27 (dk_at dksX4_restore_1 23 rfl rfl)
theorem dX4_restore_48 : decode cX4_restore 48 = .ok (.iaload, 1) := dk_46 (dk_at dksX4_restore_2 0 rfl rfl)
theorem dX4_restore_49 : decode cX4_restore 49 = .ok (.iastore, 1) := dk_79 (dk_at dksX4_restore_2 1 rfl rfl)
theorem dX4_restore_50 : decode cX4_restore 50 = .ok (.iinc 1 1, 3) := dk_132 1 1 (dk_at dksX4_restore_2 2 rfl rfl)
theorem dX4_restore_53 : decode cX4_restore 53 = .ok (.goto (-21), 3) := dk_167 255 235 (dk_at dksX4_restore_2 5 rfl rfl)
theorem dX4_restore_56 : decode cX4_restore 56 = .ok (.aload_n 0, 1) := dk_42 (dk_at dksX4_restore_2 8 rfl rfl)
theorem dX4_restore_57 : decode cX4_restore 57 = .ok (.aload_n 0, 1) := dk_42 (dk_at dksX4_restore_2 9 rfl rfl)
theorem dX4_restore_58 : decode cX4_restore 58 = .ok (.getfield 111, 3) := dk_180 0 111 (dk_at dksX4_restore_2 10 rfl rfl)
theorem dX4_restore_61 : decode cX4_restore 61 = .ok (.aload_n 0, 1) := dk_42 (dk_at dksX4_restore_2 13 rfl rfl)
theorem dX4_restore_62 : decode cX4_restore 62 = .ok (.getfield 69, 3) := dk_180 0 69 (dk_at dksX4_restore_2 14 rfl rfl)
theorem dX4_restore_65 : decode cX4_restore 65 = .ok (.invokevirtual 290, 3) := dk_182 1 34 (dk_at dksX4_restore_2 17 rfl rfl)
theorem dX4_restore_68 : decode cX4_restore 68 = .ok (.aload_n 0, 1) := dk_42 (dk_at dksX4_restore_2 20 rfl rfl)
theorem dX4_restore_69 : decode cX4_restore 69 = .ok (.aload_n 0, 1) := dk_42 (dk_at dksX4_restore_2 21 rfl rfl)
theorem dX4_restore_70 : decode cX4_restore 70 = .ok (.getfield 114, 3) := dk_180 0 114 (dk_at dksX4_restore_3 0 rfl rfl)
theorem dX4_restore_73 : decode cX4_restore 73 = .ok (.aload_n 0, 1) := dk_42 (dk_at dksX4_restore_3 3 rfl rfl)
theorem dX4_restore_74 : decode cX4_restore 74 = .ok (.getfield 96, 3) := dk_180 0 96 (dk_at dksX4_restore_3 4 rfl rfl)
theorem dX4_restore_77 : decode cX4_restore 77 = .ok (.invokevirtual 290, 3) := dk_182 1 34 (dk_at dksX4_restore_3 7 rfl rfl)
theorem dX4_restore_80 : decode cX4_restore 80 = .ok (.iconst 1, 1) := dk_4 (dk_at dksX4_restore_3 10 rfl rfl)
theorem dX4_restore_81 : decode cX4_restore 81 = .ok (.ireturn, 1) := dk_172 (dk_at dksX4_restore_3 11 rfl rfl)
