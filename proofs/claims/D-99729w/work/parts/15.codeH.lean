set_option maxRecDepth 100000
abbrev cJ11_checkIndex : ByteArray := prog_50_method_11_code
def yJ11_checkIndex : MethodName := ⟨RJ11, "checkIndex", "(IILjava/util/function/BiFunction;)I"⟩
def dkwJ11_checkIndex_0 : List UInt8 := [26, 155, 0, 8, 26, 27, 161, 0, 10, 44, 26, 27, 184, 0, 95, 191, 26, 172]
abbrev dktJ11_checkIndex_0 : List UInt8 := dkwJ11_checkIndex_0 ++ []
theorem dksJ11_checkIndex_0 : cJ11_checkIndex.data.toList.drop 0 = dktJ11_checkIndex_0 := by decide +kernel
theorem dJ11_checkIndex_0 : decode cJ11_checkIndex 0 = .ok (.iload_n 0, 1) := dk_26 (dk_at dksJ11_checkIndex_0 0 rfl rfl)
theorem dJ11_checkIndex_1 : decode cJ11_checkIndex 1 = .ok (.ifCond .lt 8, 3) := dk_155 0 8 (dk_at dksJ11_checkIndex_0 1 rfl rfl)
theorem dJ11_checkIndex_4 : decode cJ11_checkIndex 4 = .ok (.iload_n 0, 1) := dk_26 (dk_at dksJ11_checkIndex_0 4 rfl rfl)
theorem dJ11_checkIndex_5 : decode cJ11_checkIndex 5 = .ok (.iload_n 1, 1) := dk_27 (dk_at dksJ11_checkIndex_0 5 rfl rfl)
theorem dJ11_checkIndex_6 : decode cJ11_checkIndex 6 = .ok (.if_icmp .lt 10, 3) := dk_161 0 10 (dk_at dksJ11_checkIndex_0 6 rfl rfl)
theorem dJ11_checkIndex_9 : decode cJ11_checkIndex 9 = .ok (.aload_n 2, 1) := dk_44 (dk_at dksJ11_checkIndex_0 9 rfl rfl)
theorem dJ11_checkIndex_10 : decode cJ11_checkIndex 10 = .ok (.iload_n 0, 1) := dk_26 (dk_at dksJ11_checkIndex_0 10 rfl rfl)
theorem dJ11_checkIndex_11 : decode cJ11_checkIndex 11 = .ok (.iload_n 1, 1) := dk_27 (dk_at dksJ11_checkIndex_0 11 rfl rfl)
theorem dJ11_checkIndex_12 : decode cJ11_checkIndex 12 = .ok (.invokestatic 95, 3) := dk_184 0 95 (dk_at dksJ11_checkIndex_0 12 rfl rfl)
theorem dJ11_checkIndex_15 : decode cJ11_checkIndex 15 = .ok (.athrow, 1) := dk_191 (dk_at dksJ11_checkIndex_0 15 rfl rfl)
theorem dJ11_checkIndex_16 : decode cJ11_checkIndex 16 = .ok (.iload_n 0, 1) := dk_26 (dk_at dksJ11_checkIndex_0 16 rfl rfl)
theorem dJ11_checkIndex_17 : decode cJ11_checkIndex 17 = .ok (.ireturn, 1) := dk_172 (dk_at dksJ11_checkIndex_0 17 rfl rfl)
abbrev cJ8_checkIndex : ByteArray := prog_29_method_155_code
def yJ8_checkIndex : MethodName := ⟨RJ8, "checkIndex", "(II)V"⟩
def dkwJ8_checkIndex_0 : List UInt8 := [26, 27, 178, 4, 29, 184, 4, 35, 87, 177]
abbrev dktJ8_checkIndex_0 : List UInt8 := dkwJ8_checkIndex_0 ++ []
theorem dksJ8_checkIndex_0 : cJ8_checkIndex.data.toList.drop 0 = dktJ8_checkIndex_0 := by decide +kernel
theorem dJ8_checkIndex_0 : decode cJ8_checkIndex 0 = .ok (.iload_n 0, 1) := dk_26 (dk_at dksJ8_checkIndex_0 0 rfl rfl)
theorem dJ8_checkIndex_1 : decode cJ8_checkIndex 1 = .ok (.iload_n 1, 1) := dk_27 (dk_at dksJ8_checkIndex_0 1 rfl rfl)
theorem dJ8_checkIndex_2 : decode cJ8_checkIndex 2 = .ok (.getstatic 1053, 3) := dk_178 4 29 (dk_at dksJ8_checkIndex_0 2 rfl rfl)
theorem dJ8_checkIndex_5 : decode cJ8_checkIndex 5 = .ok (.invokestatic 1059, 3) := dk_184 4 35 (dk_at dksJ8_checkIndex_0 5 rfl rfl)
theorem dJ8_checkIndex_8 : decode cJ8_checkIndex 8 = .ok (.pop, 1) := dk_87 (dk_at dksJ8_checkIndex_0 8 rfl rfl)
theorem dJ8_checkIndex_9 : decode cJ8_checkIndex 9 = .ok (.return_, 1) := dk_177 (dk_at dksJ8_checkIndex_0 9 rfl rfl)
abbrev cJ13_charAt : ByteArray := prog_14_method_14_code
def yJ13_charAt : MethodName := ⟨RJ13, "charAt", "(I)C"⟩
def dkwJ13_charAt_1 : List UInt8 := [21, 4, 184, 0, 144, 28, 154, 0, 12, 45, 27, 51, 17, 0, 255, 126, 146, 172, 45, 27, 184, 0, 148, 172]
abbrev dktJ13_charAt_1 : List UInt8 := dkwJ13_charAt_1 ++ []
def dkwJ13_charAt_0 : List UInt8 := [42, 180, 0, 22, 61, 42, 180, 0, 15, 78, 42, 180, 0, 79, 45, 190, 28, 122, 184, 0, 138, 54, 4, 27]
abbrev dktJ13_charAt_0 : List UInt8 := dkwJ13_charAt_0 ++ dktJ13_charAt_1
theorem dksJ13_charAt_0 : cJ13_charAt.data.toList.drop 0 = dktJ13_charAt_0 := by decide +kernel
theorem dksJ13_charAt_1 : cJ13_charAt.data.toList.drop 24 = dktJ13_charAt_1 := dk_seg dksJ13_charAt_0 24 rfl rfl
theorem dJ13_charAt_0 : decode cJ13_charAt 0 = .ok (.aload_n 0, 1) := dk_42 (dk_at dksJ13_charAt_0 0 rfl rfl)
theorem dJ13_charAt_1 : decode cJ13_charAt 1 = .ok (.getfield 22, 3) := dk_180 0 22 (dk_at dksJ13_charAt_0 1 rfl rfl)
theorem dJ13_charAt_4 : decode cJ13_charAt 4 = .ok (.istore_n 2, 1) := dk_61 (dk_at dksJ13_charAt_0 4 rfl rfl)
theorem dJ13_charAt_5 : decode cJ13_charAt 5 = .ok (.aload_n 0, 1) := dk_42 (dk_at dksJ13_charAt_0 5 rfl rfl)
theorem dJ13_charAt_6 : decode cJ13_charAt 6 = .ok (.getfield 15, 3) := dk_180 0 15 (dk_at dksJ13_charAt_0 6 rfl rfl)
theorem dJ13_charAt_9 : decode cJ13_charAt 9 = .ok (.astore_n 3, 1) := dk_78 (dk_at dksJ13_charAt_0 9 rfl rfl)
theorem dJ13_charAt_10 : decode cJ13_charAt 10 = .ok (.aload_n 0, 1) := dk_42 (dk_at dksJ13_charAt_0 10 rfl rfl)
theorem dJ13_charAt_11 : decode cJ13_charAt 11 = .ok (.getfield 79, 3) := dk_180 0 79 (dk_at dksJ13_charAt_0 11 rfl rfl)
theorem dJ13_charAt_14 : decode cJ13_charAt 14 = .ok (.aload_n 3, 1) := dk_45 (dk_at dksJ13_charAt_0 14 rfl rfl)
theorem dJ13_charAt_15 : decode cJ13_charAt 15 = .ok (.arraylength, 1) := dk_190 (dk_at dksJ13_charAt_0 15 rfl rfl)
theorem dJ13_charAt_16 : decode cJ13_charAt 16 = .ok (.iload_n 2, 1) := dk_28 (dk_at dksJ13_charAt_0 16 rfl rfl)
theorem dJ13_charAt_17 : decode cJ13_charAt 17 = .ok (.ishr, 1) := dk_122 (dk_at dksJ13_charAt_0 17 rfl rfl)
theorem dJ13_charAt_18 : decode cJ13_charAt 18 = .ok (.invokestatic 138, 3) := dk_184 0 138 (dk_at dksJ13_charAt_0 18 rfl rfl)
theorem dJ13_charAt_21 : decode cJ13_charAt 21 = .ok (.istore 4, 2) := dk_54 4 (dk_at dksJ13_charAt_0 21 rfl rfl)
theorem dJ13_charAt_23 : decode cJ13_charAt 23 = .ok (.iload_n 1, 1) := dk_27 (dk_at dksJ13_charAt_0 23 rfl rfl)
theorem dJ13_charAt_24 : decode cJ13_charAt 24 = .ok (.iload 4, 2) := dk_21 4 (dk_at dksJ13_charAt_1 0 rfl rfl)
theorem dJ13_charAt_26 : decode cJ13_charAt 26 = .ok (.invokestatic 144, 3) := dk_184 0 144 (dk_at dksJ13_charAt_1 2 rfl rfl)
theorem dJ13_charAt_29 : decode cJ13_charAt 29 = .ok (.iload_n 2, 1) := dk_28 (dk_at dksJ13_charAt_1 5 rfl rfl)
theorem dJ13_charAt_30 : decode cJ13_charAt 30 = .ok (.ifCond .ne 12, 3) := dk_154 0 12 (dk_at dksJ13_charAt_1 6 rfl rfl)
theorem dJ13_charAt_33 : decode cJ13_charAt 33 = .ok (.aload_n 3, 1) := dk_45 (dk_at dksJ13_charAt_1 9 rfl rfl)
theorem dJ13_charAt_34 : decode cJ13_charAt 34 = .ok (.iload_n 1, 1) := dk_27 (dk_at dksJ13_charAt_1 10 rfl rfl)
theorem dJ13_charAt_35 : decode cJ13_charAt 35 = .ok (.baload, 1) := dk_51 (dk_at dksJ13_charAt_1 11 rfl rfl)
theorem dJ13_charAt_36 : decode cJ13_charAt 36 = .ok (.sipush 255, 3) := dk_17 0 255 (dk_at dksJ13_charAt_1 12 rfl rfl)
theorem dJ13_charAt_39 : decode cJ13_charAt 39 = .ok (.iand, 1) := dk_126 (dk_at dksJ13_charAt_1 15 rfl rfl)
theorem dJ13_charAt_40 : decode cJ13_charAt 40 = .ok (.i2c, 1) := dk_146 (dk_at dksJ13_charAt_1 16 rfl rfl)
theorem dJ13_charAt_41 : decode cJ13_charAt 41 = .ok (.ireturn, 1) := dk_172 (dk_at dksJ13_charAt_1 17 rfl rfl)
theorem dJ13_charAt_42 : decode cJ13_charAt 42 = .ok (.aload_n 3, 1) := dk_45 (dk_at dksJ13_charAt_1 18 rfl rfl)
theorem dJ13_charAt_43 : decode cJ13_charAt 43 = .ok (.iload_n 1, 1) := dk_27 (dk_at dksJ13_charAt_1 19 rfl rfl)
theorem dJ13_charAt_44 : decode cJ13_charAt 44 = .ok (.invokestatic 148, 3) := dk_184 0 148 (dk_at dksJ13_charAt_1 20 rfl rfl)
theorem dJ13_charAt_47 : decode cJ13_charAt 47 = .ok (.ireturn, 1) := dk_172 (dk_at dksJ13_charAt_1 23 rfl rfl)
abbrev cJ14_charAt : ByteArray := prog_30_method_88_code
def yJ14_charAt : MethodName := ⟨RJ14, "charAt", "(I)C"⟩
def dkwJ14_charAt_0 : List UInt8 := [42, 27, 183, 1, 73, 172]
abbrev dktJ14_charAt_0 : List UInt8 := dkwJ14_charAt_0 ++ []
theorem dksJ14_charAt_0 : cJ14_charAt.data.toList.drop 0 = dktJ14_charAt_0 := by decide +kernel
theorem dJ14_charAt_0 : decode cJ14_charAt 0 = .ok (.aload_n 0, 1) := dk_42 (dk_at dksJ14_charAt_0 0 rfl rfl)
theorem dJ14_charAt_1 : decode cJ14_charAt 1 = .ok (.iload_n 1, 1) := dk_27 (dk_at dksJ14_charAt_0 1 rfl rfl)
theorem dJ14_charAt_2 : decode cJ14_charAt 2 = .ok (.invokespecial 329, 3) := dk_183 1 73 (dk_at dksJ14_charAt_0 2 rfl rfl)
theorem dJ14_charAt_5 : decode cJ14_charAt 5 = .ok (.ireturn, 1) := dk_172 (dk_at dksJ14_charAt_0 5 rfl rfl)
abbrev cX7_by : ByteArray := prog_2_method_5_code
def yX7_by : MethodName := ⟨RX7, "by", "(CII)I"⟩
def dkwX7_by_5 : List UInt8 := [167, 0, 4, 3, 172]
abbrev dktX7_by_5 : List UInt8 := dkwX7_by_5 ++ []
def dkwX7_by_4 : List UInt8 := [153, 0, 11, 28, 153, 0, 7, 4, 167, 0, 4, 3, 172, 27, 154, 0, 7, 28, 153, 0, 7, 4]
abbrev dktX7_by_4 : List UInt8 := dkwX7_by_4 ++ dktX7_by_5
def dkwX7_by_3 : List UInt8 := [27, 28, 162, 0, 7, 4, 167, 0, 4, 3, 172, 27, 28, 160, 0, 7, 4, 167, 0, 4, 3, 172, 27]
abbrev dktX7_by_3 : List UInt8 := dkwX7_by_3 ++ dktX7_by_4
def dkwX7_by_2 : List UInt8 := [27, 28, 96, 172, 27, 28, 100, 172, 27, 28, 104, 172, 28, 154, 0, 7, 3, 167, 0, 6, 27, 28, 108, 172]
abbrev dktX7_by_2 : List UInt8 := dkwX7_by_2 ++ dktX7_by_3
def dkwX7_by_1 : List UInt8 := [170, 0, 0, 0, 0, 0, 171, 0, 0, 0, 38, 0, 0, 0, 61, 0, 0, 0, 157, 0, 0, 0, 171, 0, 0, 0, 171, 0, 0, 0, 171, 0, 0, 0, 119, 0, 0, 0, 111, 0, 0, 0, 171, 0, 0, 0, 115, 0, 0, 0, 171, 0, 0, 0, 123, 0, 0, 0, 171, 0, 0, 0, 171, 0, 0, 0, 171, 0, 0, 0, 171, 0, 0, 0, 171, 0, 0, 0, 171, 0, 0, 0, 171, 0, 0, 0, 171, 0, 0, 0, 171, 0, 0, 0, 171, 0, 0, 0, 171, 0, 0, 0, 171, 0, 0, 0, 135, 0, 0, 0, 146]
abbrev dktX7_by_1 : List UInt8 := dkwX7_by_1 ++ dktX7_by_2
def dkwX7_by_0 : List UInt8 := [26]
abbrev dktX7_by_0 : List UInt8 := dkwX7_by_0 ++ dktX7_by_1
theorem dksX7_by_0 : cX7_by.data.toList.drop 0 = dktX7_by_0 := by decide +kernel
theorem dksX7_by_1 : cX7_by.data.toList.drop 1 = dktX7_by_1 := dk_seg dksX7_by_0 1 rfl rfl
theorem dksX7_by_2 : cX7_by.data.toList.drop 112 = dktX7_by_2 := dk_seg dksX7_by_1 111 rfl rfl
theorem dksX7_by_3 : cX7_by.data.toList.drop 136 = dktX7_by_3 := dk_seg dksX7_by_2 24 rfl rfl
theorem dksX7_by_4 : cX7_by.data.toList.drop 159 = dktX7_by_4 := dk_seg dksX7_by_3 23 rfl rfl
theorem dksX7_by_5 : cX7_by.data.toList.drop 181 = dktX7_by_5 := dk_seg dksX7_by_4 22 rfl rfl
theorem dX7_by_0 : decode cX7_by 0 = .ok (.iload_n 0, 1) := dk_26 (dk_at dksX7_by_0 0 rfl rfl)
theorem dX7_by_1 : decode cX7_by 1 = .ok (.tableswitch 171 38 61 #[157, 171, 171, 171, 119, 111, 171, 115, 171, 123, 171, 171, 171, 171, 171, 171, 171, 171, 171, 171, 171, 171, 135, 146], 111) := by decide +kernel
theorem dX7_by_112 : decode cX7_by 112 = .ok (.iload_n 1, 1) := dk_27 (dk_at dksX7_by_2 0 rfl rfl)
theorem dX7_by_113 : decode cX7_by 113 = .ok (.iload_n 2, 1) := dk_28 (dk_at dksX7_by_2 1 rfl rfl)
theorem dX7_by_114 : decode cX7_by 114 = .ok (.iadd, 1) := dk_96 (dk_at dksX7_by_2 2 rfl rfl)
theorem dX7_by_115 : decode cX7_by 115 = .ok (.ireturn, 1) := dk_172 (dk_at dksX7_by_2 3 rfl rfl)
theorem dX7_by_116 : decode cX7_by 116 = .ok (.iload_n 1, 1) := dk_27 (dk_at dksX7_by_2 4 rfl rfl)
theorem dX7_by_117 : decode cX7_by 117 = .ok (.iload_n 2, 1) := dk_28 (dk_at dksX7_by_2 5 rfl rfl)
theorem dX7_by_118 : decode cX7_by 118 = .ok (.isub, 1) := dk_100 (dk_at dksX7_by_2 6 rfl rfl)
theorem dX7_by_119 : decode cX7_by 119 = .ok (.ireturn, 1) := dk_172 (dk_at dksX7_by_2 7 rfl rfl)
theorem dX7_by_120 : decode cX7_by 120 = .ok (.iload_n 1, 1) := dk_27 (dk_at dksX7_by_2 8 rfl rfl)
theorem dX7_by_121 : decode cX7_by 121 = .ok (.iload_n 2, 1) := dk_28 (dk_at dksX7_by_2 9 rfl rfl)
theorem dX7_by_122 : decode cX7_by 122 = .ok (.imul, 1) := dk_104 (dk_at dksX7_by_2 10 rfl rfl)
theorem dX7_by_123 : decode cX7_by 123 = .ok (.ireturn, 1) := dk_172 (dk_at dksX7_by_2 11 rfl rfl)
theorem dX7_by_124 : decode cX7_by 124 = .ok (.iload_n 2, 1) := dk_28 (dk_at dksX7_by_2 12 rfl rfl)
theorem dX7_by_125 : decode cX7_by 125 = .ok (.ifCond .ne 7, 3) := dk_154 0 7 (dk_at dksX7_by_2 13 rfl rfl)
theorem dX7_by_128 : decode cX7_by 128 = .ok (.iconst 0, 1) := dk_3 (dk_at dksX7_by_2 16 rfl rfl)
theorem dX7_by_129 : decode cX7_by 129 = .ok (.goto 6, 3) := dk_167 0 6 (dk_at dksX7_by_2 17 rfl rfl)
theorem dX7_by_132 : decode cX7_by 132 = .ok (.iload_n 1, 1) := dk_27 (dk_at dksX7_by_2 20 rfl rfl)
theorem dX7_by_133 : decode cX7_by 133 = .ok (.iload_n 2, 1) := dk_28 (dk_at dksX7_by_2 21 rfl rfl)
theorem dX7_by_134 : decode cX7_by 134 = .ok (.idiv, 1) := dk_108 (dk_at dksX7_by_2 22 rfl rfl)
theorem dX7_by_135 : decode cX7_by 135 = .ok (.ireturn, 1) := dk_172 (dk_at dksX7_by_2 23 rfl rfl)
theorem dX7_by_136 : decode cX7_by 136 = .ok (.iload_n 1, 1) := dk_27 (dk_at dksX7_by_3 0 rfl rfl)
theorem dX7_by_137 : decode cX7_by 137 = .ok (.iload_n 2, 1) := dk_28 (dk_at dksX7_by_3 1 rfl rfl)
theorem dX7_by_138 : decode cX7_by 138 = .ok (.if_icmp .ge 7, 3) := dk_162 0 7 (dk_at dksX7_by_3 2 rfl rfl)
theorem dX7_by_141 : decode cX7_by 141 = .ok (.iconst 1, 1) := dk_4 (dk_at dksX7_by_3 5 rfl rfl)
theorem dX7_by_142 : decode cX7_by 142 = .ok (.goto 4, 3) := dk_167 0 4 (dk_at dksX7_by_3 6 rfl rfl)
theorem dX7_by_145 : decode cX7_by 145 = .ok (.iconst 0, 1) := dk_3 (dk_at dksX7_by_3 9 rfl rfl)
theorem dX7_by_146 : decode cX7_by 146 = .ok (.ireturn, 1) := dk_172 (dk_at dksX7_by_3 10 rfl rfl)
theorem dX7_by_147 : decode cX7_by 147 = .ok (.iload_n 1, 1) := dk_27 (dk_at dksX7_by_3 11 rfl rfl)
theorem dX7_by_148 : decode cX7_by 148 = .ok (.iload_n 2, 1) := dk_28 (dk_at dksX7_by_3 12 rfl rfl)
theorem dX7_by_149 : decode cX7_by 149 = .ok (.if_icmp .ne 7, 3) := dk_160 0 7 (dk_at dksX7_by_3 13 rfl rfl)
theorem dX7_by_152 : decode cX7_by 152 = .ok (.iconst 1, 1) := dk_4 (dk_at dksX7_by_3 16 rfl rfl)
theorem dX7_by_153 : decode cX7_by 153 = .ok (.goto 4, 3) := dk_167 0 4 (dk_at dksX7_by_3 17 rfl rfl)
theorem dX7_by_156 : decode cX7_by 156 = .ok (.iconst 0, 1) := dk_3 (dk_at dksX7_by_3 20 rfl rfl)
theorem dX7_by_157 : decode cX7_by 157 = .ok (.ireturn, 1) := dk_172 (dk_at dksX7_by_3 21 rfl rfl)
theorem dX7_by_158 : decode cX7_by 158 = .ok (.iload_n 1, 1) := dk_27 (dk_at dksX7_by_3 22 rfl rfl)
theorem dX7_by_159 : decode cX7_by 159 = .ok (.ifCond .eq 11, 3) := dk_153 0 11 (dk_at dksX7_by_4 0 rfl rfl)
theorem dX7_by_162 : decode cX7_by 162 = .ok (.iload_n 2, 1) := dk_28 (dk_at dksX7_by_4 3 rfl rfl)
theorem dX7_by_163 : decode cX7_by 163 = .ok (.ifCond .eq 7, 3) := dk_153 0 7 (dk_at dksX7_by_4 4 rfl rfl)
theorem dX7_by_166 : decode cX7_by 166 = .ok (.iconst 1, 1) := dk_4 (dk_at dksX7_by_4 7 rfl rfl)
theorem dX7_by_167 : decode cX7_by 167 = .ok (.goto 4, 3) := dk_167 0 4 (dk_at dksX7_by_4 8 rfl rfl)
theorem dX7_by_170 : decode cX7_by 170 = .ok (.iconst 0, 1) := dk_3 (dk_at dksX7_by_4 11 rfl rfl)
theorem dX7_by_171 : decode cX7_by 171 = .ok (.ireturn, 1) := dk_172 (dk_at dksX7_by_4 12 rfl rfl)
theorem dX7_by_172 : decode cX7_by 172 = .ok (.iload_n 1, 1) := dk_27 (dk_at dksX7_by_4 13 rfl rfl)
theorem dX7_by_173 : decode cX7_by 173 = .ok (.ifCond .ne 7, 3) := dk_154 0 7 (dk_at dksX7_by_4 14 rfl rfl)
theorem dX7_by_176 : decode cX7_by 176 = .ok (.iload_n 2, 1) := dk_28 (dk_at dksX7_by_4 17 rfl rfl)
theorem dX7_by_177 : decode cX7_by 177 = .ok (.ifCond .eq 7, 3) := dk_153 0 7 (dk_at dksX7_by_4 18 rfl rfl)
theorem dX7_by_180 : decode cX7_by 180 = .ok (.iconst 1, 1) := dk_4 (dk_at dksX7_by_4 21 rfl rfl)
theorem dX7_by_181 : decode cX7_by 181 = .ok (.goto 4, 3) := dk_167 0 4 (dk_at dksX7_by_5 0 rfl rfl)
theorem dX7_by_184 : decode cX7_by 184 = .ok (.iconst 0, 1) := dk_3 (dk_at dksX7_by_5 3 rfl rfl)
theorem dX7_by_185 : decode cX7_by 185 = .ok (.ireturn, 1) := dk_172 (dk_at dksX7_by_5 4 rfl rfl)
abbrev cX8_of : ByteArray := prog_6_method_2_code
def yX8_of : MethodName := ⟨RX8, "of", "([I)I"⟩
theorem dX8_of_0 : decode cX8_of 0 = .ok (.aload_n 0, 1) := by decide +kernel
theorem dX8_of_1 : decode cX8_of 1 = .ok (.getfield 7, 3) := by decide +kernel
theorem dX8_of_4 : decode cX8_of 4 = .ok (.ireturn, 1) := by decide +kernel
abbrev cX9_of : ByteArray := prog_9_method_2_code
def yX9_of : MethodName := ⟨RX9, "of", "([I)I"⟩
def dkwX9_of_0 : List UInt8 := [43, 42, 180, 0, 7, 46, 172]
abbrev dktX9_of_0 : List UInt8 := dkwX9_of_0 ++ []
theorem dksX9_of_0 : cX9_of.data.toList.drop 0 = dktX9_of_0 := by decide +kernel
theorem dX9_of_0 : decode cX9_of 0 = .ok (.aload_n 1, 1) := dk_43 (dk_at dksX9_of_0 0 rfl rfl)
theorem dX9_of_1 : decode cX9_of 1 = .ok (.aload_n 0, 1) := dk_42 (dk_at dksX9_of_0 1 rfl rfl)
theorem dX9_of_2 : decode cX9_of 2 = .ok (.getfield 7, 3) := dk_180 0 7 (dk_at dksX9_of_0 2 rfl rfl)
theorem dX9_of_5 : decode cX9_of 5 = .ok (.iaload, 1) := dk_46 (dk_at dksX9_of_0 5 rfl rfl)
theorem dX9_of_6 : decode cX9_of 6 = .ok (.ireturn, 1) := dk_172 (dk_at dksX9_of_0 6 rfl rfl)
abbrev cX10_of : ByteArray := prog_5_method_2_code
def yX10_of : MethodName := ⟨RX10, "of", "([I)I"⟩
def dkwX10_of_0 : List UInt8 := [42, 180, 0, 7, 43, 185, 0, 13, 2, 0, 154, 0, 7, 4, 167, 0, 4, 3, 172]
abbrev dktX10_of_0 : List UInt8 := dkwX10_of_0 ++ []
theorem dksX10_of_0 : cX10_of.data.toList.drop 0 = dktX10_of_0 := by decide +kernel
theorem dX10_of_0 : decode cX10_of 0 = .ok (.aload_n 0, 1) := dk_42 (dk_at dksX10_of_0 0 rfl rfl)
theorem dX10_of_1 : decode cX10_of 1 = .ok (.getfield 7, 3) := dk_180 0 7 (dk_at dksX10_of_0 1 rfl rfl)
theorem dX10_of_4 : decode cX10_of 4 = .ok (.aload_n 1, 1) := dk_43 (dk_at dksX10_of_0 4 rfl rfl)
theorem dX10_of_5 : decode cX10_of 5 = .ok (.invokeinterface 13 2, 5) := by decide +kernel
theorem dX10_of_10 : decode cX10_of 10 = .ok (.ifCond .ne 7, 3) := dk_154 0 7 (dk_at dksX10_of_0 10 rfl rfl)
theorem dX10_of_13 : decode cX10_of 13 = .ok (.iconst 1, 1) := dk_4 (dk_at dksX10_of_0 13 rfl rfl)
theorem dX10_of_14 : decode cX10_of 14 = .ok (.goto 4, 3) := dk_167 0 4 (dk_at dksX10_of_0 14 rfl rfl)
theorem dX10_of_17 : decode cX10_of 17 = .ok (.iconst 0, 1) := dk_3 (dk_at dksX10_of_0 17 rfl rfl)
theorem dX10_of_18 : decode cX10_of 18 = .ok (.ireturn, 1) := dk_172 (dk_at dksX10_of_0 18 rfl rfl)
abbrev cJ2_elementData : ByteArray := prog_39_method_18_code
def yJ2_elementData : MethodName := ⟨RJ2, "elementData", "(I)Ljava/lang/Object;"⟩
def dkwJ2_elementData_0 : List UInt8 := [42, 180, 0, 9, 27, 50, 176]
abbrev dktJ2_elementData_0 : List UInt8 := dkwJ2_elementData_0 ++ []
theorem dksJ2_elementData_0 : cJ2_elementData.data.toList.drop 0 = dktJ2_elementData_0 := by decide +kernel
theorem dJ2_elementData_0 : decode cJ2_elementData 0 = .ok (.aload_n 0, 1) := dk_42 (dk_at dksJ2_elementData_0 0 rfl rfl)
theorem dJ2_elementData_1 : decode cJ2_elementData 1 = .ok (.getfield 9, 3) := dk_180 0 9 (dk_at dksJ2_elementData_0 1 rfl rfl)
theorem dJ2_elementData_4 : decode cJ2_elementData 4 = .ok (.iload_n 1, 1) := dk_27 (dk_at dksJ2_elementData_0 4 rfl rfl)
theorem dJ2_elementData_5 : decode cJ2_elementData 5 = .ok (.aaload, 1) := dk_50 (dk_at dksJ2_elementData_0 5 rfl rfl)
theorem dJ2_elementData_6 : decode cJ2_elementData 6 = .ok (.areturn, 1) := dk_176 (dk_at dksJ2_elementData_0 6 rfl rfl)
abbrev cJ19_checkIndex : ByteArray := prog_44_method_17_code
def yJ19_checkIndex : MethodName := ⟨RJ19, "checkIndex", "(II)I"⟩
def dkwJ19_checkIndex_0 : List UInt8 := [26, 27, 1, 184, 0, 105, 172]
abbrev dktJ19_checkIndex_0 : List UInt8 := dkwJ19_checkIndex_0 ++ []
theorem dksJ19_checkIndex_0 : cJ19_checkIndex.data.toList.drop 0 = dktJ19_checkIndex_0 := by decide +kernel
theorem dJ19_checkIndex_0 : decode cJ19_checkIndex 0 = .ok (.iload_n 0, 1) := dk_26 (dk_at dksJ19_checkIndex_0 0 rfl rfl)
theorem dJ19_checkIndex_1 : decode cJ19_checkIndex 1 = .ok (.iload_n 1, 1) := dk_27 (dk_at dksJ19_checkIndex_0 1 rfl rfl)
theorem dJ19_checkIndex_2 : decode cJ19_checkIndex 2 = .ok (.aconst_null, 1) := dk_1 (dk_at dksJ19_checkIndex_0 2 rfl rfl)
theorem dJ19_checkIndex_3 : decode cJ19_checkIndex 3 = .ok (.invokestatic 105, 3) := dk_184 0 105 (dk_at dksJ19_checkIndex_0 3 rfl rfl)
theorem dJ19_checkIndex_6 : decode cJ19_checkIndex 6 = .ok (.ireturn, 1) := dk_172 (dk_at dksJ19_checkIndex_0 6 rfl rfl)
abbrev cJ2_get : ByteArray := prog_39_method_20_code
def yJ2_get : MethodName := ⟨RJ2, "get", "(I)Ljava/lang/Object;"⟩
def dkwJ2_get_0 : List UInt8 := [27, 42, 180, 0, 48, 184, 0, 118, 87, 42, 27, 182, 0, 123, 176]
abbrev dktJ2_get_0 : List UInt8 := dkwJ2_get_0 ++ []
theorem dksJ2_get_0 : cJ2_get.data.toList.drop 0 = dktJ2_get_0 := by decide +kernel
theorem dJ2_get_0 : decode cJ2_get 0 = .ok (.iload_n 1, 1) := dk_27 (dk_at dksJ2_get_0 0 rfl rfl)
theorem dJ2_get_1 : decode cJ2_get 1 = .ok (.aload_n 0, 1) := dk_42 (dk_at dksJ2_get_0 1 rfl rfl)
theorem dJ2_get_2 : decode cJ2_get 2 = .ok (.getfield 48, 3) := dk_180 0 48 (dk_at dksJ2_get_0 2 rfl rfl)
theorem dJ2_get_5 : decode cJ2_get 5 = .ok (.invokestatic 118, 3) := dk_184 0 118 (dk_at dksJ2_get_0 5 rfl rfl)
theorem dJ2_get_8 : decode cJ2_get 8 = .ok (.pop, 1) := dk_87 (dk_at dksJ2_get_0 8 rfl rfl)
theorem dJ2_get_9 : decode cJ2_get 9 = .ok (.aload_n 0, 1) := dk_42 (dk_at dksJ2_get_0 9 rfl rfl)
theorem dJ2_get_10 : decode cJ2_get 10 = .ok (.iload_n 1, 1) := dk_27 (dk_at dksJ2_get_0 10 rfl rfl)
theorem dJ2_get_11 : decode cJ2_get 11 = .ok (.invokevirtual 123, 3) := dk_182 0 123 (dk_at dksJ2_get_0 11 rfl rfl)
theorem dJ2_get_14 : decode cJ2_get 14 = .ok (.areturn, 1) := dk_176 (dk_at dksJ2_get_0 14 rfl rfl)
abbrev cJ2_size : ByteArray := prog_39_method_8_code
def yJ2_size : MethodName := ⟨RJ2, "size", "()I"⟩
theorem dJ2_size_0 : decode cJ2_size 0 = .ok (.aload_n 0, 1) := by decide +kernel
theorem dJ2_size_1 : decode cJ2_size 1 = .ok (.getfield 48, 3) := by decide +kernel
theorem dJ2_size_4 : decode cJ2_size 4 = .ok (.ireturn, 1) := by decide +kernel
abbrev cX7_of : ByteArray := prog_2_method_4_code
def yX7_of : MethodName := ⟨RX7, "of", "([I)I"⟩
def dkwX7_of_3 : List UInt8 := [132, 3, 1, 167, 255, 206, 28, 172]
abbrev dktX7_of_3 : List UInt8 := dkwX7_of_3 ++ []
def dkwX7_of_2 : List UInt8 := [180, 0, 10, 29, 185, 0, 37, 2, 0, 192, 0, 41, 43, 185, 0, 43, 2, 0, 184, 0, 51, 61]
abbrev dktX7_of_2 : List UInt8 := dkwX7_of_2 ++ dktX7_of_3
def dkwX7_of_1 : List UInt8 := [180, 0, 10, 185, 0, 33, 1, 0, 162, 0, 43, 42, 180, 0, 19, 29, 4, 100, 182, 0, 47, 28, 42]
abbrev dktX7_of_1 : List UInt8 := dkwX7_of_1 ++ dktX7_of_2
def dkwX7_of_0 : List UInt8 := [42, 180, 0, 10, 3, 185, 0, 37, 2, 0, 192, 0, 41, 43, 185, 0, 43, 2, 0, 61, 4, 62, 29, 42]
abbrev dktX7_of_0 : List UInt8 := dkwX7_of_0 ++ dktX7_of_1
theorem dksX7_of_0 : cX7_of.data.toList.drop 0 = dktX7_of_0 := by decide +kernel
theorem dksX7_of_1 : cX7_of.data.toList.drop 24 = dktX7_of_1 := dk_seg dksX7_of_0 24 rfl rfl
theorem dksX7_of_2 : cX7_of.data.toList.drop 47 = dktX7_of_2 := dk_seg dksX7_of_1 23 rfl rfl
theorem dksX7_of_3 : cX7_of.data.toList.drop 69 = dktX7_of_3 := dk_seg dksX7_of_2 22 rfl rfl
theorem dX7_of_0 : decode cX7_of 0 = .ok (.aload_n 0, 1) := dk_42 (dk_at dksX7_of_0 0 rfl rfl)
theorem dX7_of_1 : decode cX7_of 1 = .ok (.getfield 10, 3) := dk_180 0 10 (dk_at dksX7_of_0 1 rfl rfl)
theorem dX7_of_4 : decode cX7_of 4 = .ok (.iconst 0, 1) := dk_3 (dk_at dksX7_of_0 4 rfl rfl)
theorem dX7_of_5 : decode cX7_of 5 = .ok (.invokeinterface 37 2, 5) := by decide +kernel
theorem dX7_of_10 : decode cX7_of 10 = .ok (.checkcast 41, 3) := dk_192 0 41 (dk_at dksX7_of_0 10 rfl rfl)
theorem dX7_of_13 : decode cX7_of 13 = .ok (.aload_n 1, 1) := dk_43 (dk_at dksX7_of_0 13 rfl rfl)
theorem dX7_of_14 : decode cX7_of 14 = .ok (.invokeinterface 43 2, 5) := by decide +kernel
theorem dX7_of_19 : decode cX7_of 19 = .ok (.istore_n 2, 1) := dk_61 (dk_at dksX7_of_0 19 rfl rfl)
theorem dX7_of_20 : decode cX7_of 20 = .ok (.iconst 1, 1) := dk_4 (dk_at dksX7_of_0 20 rfl rfl)
theorem dX7_of_21 : decode cX7_of 21 = .ok (.istore_n 3, 1) := dk_62 (dk_at dksX7_of_0 21 rfl rfl)
theorem dX7_of_22 : decode cX7_of 22 = .ok (.iload_n 3, 1) := dk_29 (dk_at dksX7_of_0 22 rfl rfl)
theorem dX7_of_23 : decode cX7_of 23 = .ok (.aload_n 0, 1) := dk_42 (dk_at dksX7_of_0 23 rfl rfl)
theorem dX7_of_24 : decode cX7_of 24 = .ok (.getfield 10, 3) := dk_180 0 10 (dk_at dksX7_of_1 0 rfl rfl)
theorem dX7_of_27 : decode cX7_of 27 = .ok (.invokeinterface 33 1, 5) := by decide +kernel
theorem dX7_of_32 : decode cX7_of 32 = .ok (.if_icmp .ge 43, 3) := dk_162 0 43 (dk_at dksX7_of_1 8 rfl rfl)
theorem dX7_of_35 : decode cX7_of 35 = .ok (.aload_n 0, 1) := dk_42 (dk_at dksX7_of_1 11 rfl rfl)
theorem dX7_of_36 : decode cX7_of 36 = .ok (.getfield 19, 3) := dk_180 0 19 (dk_at dksX7_of_1 12 rfl rfl)
theorem dX7_of_39 : decode cX7_of 39 = .ok (.iload_n 3, 1) := dk_29 (dk_at dksX7_of_1 15 rfl rfl)
theorem dX7_of_40 : decode cX7_of 40 = .ok (.iconst 1, 1) := dk_4 (dk_at dksX7_of_1 16 rfl rfl)
theorem dX7_of_41 : decode cX7_of 41 = .ok (.isub, 1) := dk_100 (dk_at dksX7_of_1 17 rfl rfl)
theorem dX7_of_42 : decode cX7_of 42 = .ok (.invokevirtual 47, 3) := dk_182 0 47 (dk_at dksX7_of_1 18 rfl rfl)
theorem dX7_of_45 : decode cX7_of 45 = .ok (.iload_n 2, 1) := dk_28 (dk_at dksX7_of_1 21 rfl rfl)
theorem dX7_of_46 : decode cX7_of 46 = .ok (.aload_n 0, 1) := dk_42 (dk_at dksX7_of_1 22 rfl rfl)
theorem dX7_of_47 : decode cX7_of 47 = .ok (.getfield 10, 3) := dk_180 0 10 (dk_at dksX7_of_2 0 rfl rfl)
theorem dX7_of_50 : decode cX7_of 50 = .ok (.iload_n 3, 1) := dk_29 (dk_at dksX7_of_2 3 rfl rfl)
theorem dX7_of_51 : decode cX7_of 51 = .ok (.invokeinterface 37 2, 5) := by decide +kernel
theorem dX7_of_56 : decode cX7_of 56 = .ok (.checkcast 41, 3) := dk_192 0 41 (dk_at dksX7_of_2 9 rfl rfl)
theorem dX7_of_59 : decode cX7_of 59 = .ok (.aload_n 1, 1) := dk_43 (dk_at dksX7_of_2 12 rfl rfl)
theorem dX7_of_60 : decode cX7_of 60 = .ok (.invokeinterface 43 2, 5) := by decide +kernel
theorem dX7_of_65 : decode cX7_of 65 = .ok (.invokestatic 51, 3) := dk_184 0 51 (dk_at dksX7_of_2 18 rfl rfl)
theorem dX7_of_68 : decode cX7_of 68 = .ok (.istore_n 2, 1) := dk_61 (dk_at dksX7_of_2 21 rfl rfl)
theorem dX7_of_69 : decode cX7_of 69 = .ok (.iinc 3 1, 3) := dk_132 3 1 (dk_at dksX7_of_3 0 rfl rfl)
theorem dX7_of_72 : decode cX7_of 72 = .ok (.goto (-50), 3) := dk_167 255 206 (dk_at dksX7_of_3 3 rfl rfl)
theorem dX7_of_75 : decode cX7_of 75 = .ok (.iload_n 2, 1) := dk_28 (dk_at dksX7_of_3 6 rfl rfl)
theorem dX7_of_76 : decode cX7_of 76 = .ok (.ireturn, 1) := dk_172 (dk_at dksX7_of_3 7 rfl rfl)
abbrev cJ2_isEmpty : ByteArray := prog_39_method_9_code
def yJ2_isEmpty : MethodName := ⟨RJ2, "isEmpty", "()Z"⟩
def dkwJ2_isEmpty_0 : List UInt8 := [42, 180, 0, 48, 154, 0, 7, 4, 167, 0, 4, 3, 172]
abbrev dktJ2_isEmpty_0 : List UInt8 := dkwJ2_isEmpty_0 ++ []
theorem dksJ2_isEmpty_0 : cJ2_isEmpty.data.toList.drop 0 = dktJ2_isEmpty_0 := by decide +kernel
theorem dJ2_isEmpty_0 : decode cJ2_isEmpty 0 = .ok (.aload_n 0, 1) := dk_42 (dk_at dksJ2_isEmpty_0 0 rfl rfl)
theorem dJ2_isEmpty_1 : decode cJ2_isEmpty 1 = .ok (.getfield 48, 3) := dk_180 0 48 (dk_at dksJ2_isEmpty_0 1 rfl rfl)
theorem dJ2_isEmpty_4 : decode cJ2_isEmpty 4 = .ok (.ifCond .ne 7, 3) := dk_154 0 7 (dk_at dksJ2_isEmpty_0 4 rfl rfl)
theorem dJ2_isEmpty_7 : decode cJ2_isEmpty 7 = .ok (.iconst 1, 1) := dk_4 (dk_at dksJ2_isEmpty_0 7 rfl rfl)
theorem dJ2_isEmpty_8 : decode cJ2_isEmpty 8 = .ok (.goto 4, 3) := dk_167 0 4 (dk_at dksJ2_isEmpty_0 8 rfl rfl)
theorem dJ2_isEmpty_11 : decode cJ2_isEmpty 11 = .ok (.iconst 0, 1) := dk_3 (dk_at dksJ2_isEmpty_0 11 rfl rfl)
theorem dJ2_isEmpty_12 : decode cJ2_isEmpty 12 = .ok (.ireturn, 1) := dk_172 (dk_at dksJ2_isEmpty_0 12 rfl rfl)
abbrev cJ18_intValue : ByteArray := prog_22_method_27_code
def yJ18_intValue : MethodName := ⟨RJ18, "intValue", "()I"⟩
theorem dJ18_intValue_0 : decode cJ18_intValue 0 = .ok (.aload_n 0, 1) := by decide +kernel
theorem dJ18_intValue_1 : decode cJ18_intValue 1 = .ok (.getfield 205, 3) := by decide +kernel
theorem dJ18_intValue_4 : decode cJ18_intValue 4 = .ok (.ireturn, 1) := by decide +kernel
abbrev cJ18_bitCount : ByteArray := prog_22_method_49_code
def yJ18_bitCount : MethodName := ⟨RJ18, "bitCount", "(I)I"⟩
def dkwJ18_bitCount_2 : List UInt8 := [26, 16, 63, 126, 172]
abbrev dktJ18_bitCount_2 : List UInt8 := dkwJ18_bitCount_2 ++ []
def dkwJ18_bitCount_1 : List UInt8 := [26, 26, 7, 124, 96, 19, 1, 11, 126, 59, 26, 26, 16, 8, 124, 96, 59, 26, 26, 16, 16, 124, 96, 59]
abbrev dktJ18_bitCount_1 : List UInt8 := dkwJ18_bitCount_1 ++ dktJ18_bitCount_2
def dkwJ18_bitCount_0 : List UInt8 := [26, 26, 4, 124, 19, 1, 9, 126, 100, 59, 26, 19, 1, 10, 126, 26, 5, 124, 19, 1, 10, 126, 96, 59]
abbrev dktJ18_bitCount_0 : List UInt8 := dkwJ18_bitCount_0 ++ dktJ18_bitCount_1
theorem dksJ18_bitCount_0 : cJ18_bitCount.data.toList.drop 0 = dktJ18_bitCount_0 := by decide +kernel
theorem dksJ18_bitCount_1 : cJ18_bitCount.data.toList.drop 24 = dktJ18_bitCount_1 := dk_seg dksJ18_bitCount_0 24 rfl rfl
theorem dksJ18_bitCount_2 : cJ18_bitCount.data.toList.drop 48 = dktJ18_bitCount_2 := dk_seg dksJ18_bitCount_1 24 rfl rfl
theorem dJ18_bitCount_0 : decode cJ18_bitCount 0 = .ok (.iload_n 0, 1) := dk_26 (dk_at dksJ18_bitCount_0 0 rfl rfl)
theorem dJ18_bitCount_1 : decode cJ18_bitCount 1 = .ok (.iload_n 0, 1) := dk_26 (dk_at dksJ18_bitCount_0 1 rfl rfl)
theorem dJ18_bitCount_2 : decode cJ18_bitCount 2 = .ok (.iconst 1, 1) := dk_4 (dk_at dksJ18_bitCount_0 2 rfl rfl)
theorem dJ18_bitCount_3 : decode cJ18_bitCount 3 = .ok (.iushr, 1) := dk_124 (dk_at dksJ18_bitCount_0 3 rfl rfl)
theorem dJ18_bitCount_4 : decode cJ18_bitCount 4 = .ok (.ldc_w 265, 3) := dk_19 1 9 (dk_at dksJ18_bitCount_0 4 rfl rfl)
theorem dJ18_bitCount_7 : decode cJ18_bitCount 7 = .ok (.iand, 1) := dk_126 (dk_at dksJ18_bitCount_0 7 rfl rfl)
theorem dJ18_bitCount_8 : decode cJ18_bitCount 8 = .ok (.isub, 1) := dk_100 (dk_at dksJ18_bitCount_0 8 rfl rfl)
theorem dJ18_bitCount_9 : decode cJ18_bitCount 9 = .ok (.istore_n 0, 1) := dk_59 (dk_at dksJ18_bitCount_0 9 rfl rfl)
theorem dJ18_bitCount_10 : decode cJ18_bitCount 10 = .ok (.iload_n 0, 1) := dk_26 (dk_at dksJ18_bitCount_0 10 rfl rfl)
theorem dJ18_bitCount_11 : decode cJ18_bitCount 11 = .ok (.ldc_w 266, 3) := dk_19 1 10 (dk_at dksJ18_bitCount_0 11 rfl rfl)
theorem dJ18_bitCount_14 : decode cJ18_bitCount 14 = .ok (.iand, 1) := dk_126 (dk_at dksJ18_bitCount_0 14 rfl rfl)
theorem dJ18_bitCount_15 : decode cJ18_bitCount 15 = .ok (.iload_n 0, 1) := dk_26 (dk_at dksJ18_bitCount_0 15 rfl rfl)
theorem dJ18_bitCount_16 : decode cJ18_bitCount 16 = .ok (.iconst 2, 1) := dk_5 (dk_at dksJ18_bitCount_0 16 rfl rfl)
theorem dJ18_bitCount_17 : decode cJ18_bitCount 17 = .ok (.iushr, 1) := dk_124 (dk_at dksJ18_bitCount_0 17 rfl rfl)
theorem dJ18_bitCount_18 : decode cJ18_bitCount 18 = .ok (.ldc_w 266, 3) := dk_19 1 10 (dk_at dksJ18_bitCount_0 18 rfl rfl)
theorem dJ18_bitCount_21 : decode cJ18_bitCount 21 = .ok (.iand, 1) := dk_126 (dk_at dksJ18_bitCount_0 21 rfl rfl)
theorem dJ18_bitCount_22 : decode cJ18_bitCount 22 = .ok (.iadd, 1) := dk_96 (dk_at dksJ18_bitCount_0 22 rfl rfl)
theorem dJ18_bitCount_23 : decode cJ18_bitCount 23 = .ok (.istore_n 0, 1) := dk_59 (dk_at dksJ18_bitCount_0 23 rfl rfl)
theorem dJ18_bitCount_24 : decode cJ18_bitCount 24 = .ok (.iload_n 0, 1) := dk_26 (dk_at dksJ18_bitCount_1 0 rfl rfl)
theorem dJ18_bitCount_25 : decode cJ18_bitCount 25 = .ok (.iload_n 0, 1) := dk_26 (dk_at dksJ18_bitCount_1 1 rfl rfl)
theorem dJ18_bitCount_26 : decode cJ18_bitCount 26 = .ok (.iconst 4, 1) := dk_7 (dk_at dksJ18_bitCount_1 2 rfl rfl)
theorem dJ18_bitCount_27 : decode cJ18_bitCount 27 = .ok (.iushr, 1) := dk_124 (dk_at dksJ18_bitCount_1 3 rfl rfl)
theorem dJ18_bitCount_28 : decode cJ18_bitCount 28 = .ok (.iadd, 1) := dk_96 (dk_at dksJ18_bitCount_1 4 rfl rfl)
theorem dJ18_bitCount_29 : decode cJ18_bitCount 29 = .ok (.ldc_w 267, 3) := dk_19 1 11 (dk_at dksJ18_bitCount_1 5 rfl rfl)
theorem dJ18_bitCount_32 : decode cJ18_bitCount 32 = .ok (.iand, 1) := dk_126 (dk_at dksJ18_bitCount_1 8 rfl rfl)
theorem dJ18_bitCount_33 : decode cJ18_bitCount 33 = .ok (.istore_n 0, 1) := dk_59 (dk_at dksJ18_bitCount_1 9 rfl rfl)
theorem dJ18_bitCount_34 : decode cJ18_bitCount 34 = .ok (.iload_n 0, 1) := dk_26 (dk_at dksJ18_bitCount_1 10 rfl rfl)
theorem dJ18_bitCount_35 : decode cJ18_bitCount 35 = .ok (.iload_n 0, 1) := dk_26 (dk_at dksJ18_bitCount_1 11 rfl rfl)
theorem dJ18_bitCount_36 : decode cJ18_bitCount 36 = .ok (.bipush 8, 2) := dk_16 8 (dk_at dksJ18_bitCount_1 12 rfl rfl)
theorem dJ18_bitCount_38 : decode cJ18_bitCount 38 = .ok (.iushr, 1) := dk_124 (dk_at dksJ18_bitCount_1 14 rfl rfl)
theorem dJ18_bitCount_39 : decode cJ18_bitCount 39 = .ok (.iadd, 1) := dk_96 (dk_at dksJ18_bitCount_1 15 rfl rfl)
theorem dJ18_bitCount_40 : decode cJ18_bitCount 40 = .ok (.istore_n 0, 1) := dk_59 (dk_at dksJ18_bitCount_1 16 rfl rfl)
theorem dJ18_bitCount_41 : decode cJ18_bitCount 41 = .ok (.iload_n 0, 1) := dk_26 (dk_at dksJ18_bitCount_1 17 rfl rfl)
theorem dJ18_bitCount_42 : decode cJ18_bitCount 42 = .ok (.iload_n 0, 1) := dk_26 (dk_at dksJ18_bitCount_1 18 rfl rfl)
theorem dJ18_bitCount_43 : decode cJ18_bitCount 43 = .ok (.bipush 16, 2) := dk_16 16 (dk_at dksJ18_bitCount_1 19 rfl rfl)
theorem dJ18_bitCount_45 : decode cJ18_bitCount 45 = .ok (.iushr, 1) := dk_124 (dk_at dksJ18_bitCount_1 21 rfl rfl)
theorem dJ18_bitCount_46 : decode cJ18_bitCount 46 = .ok (.iadd, 1) := dk_96 (dk_at dksJ18_bitCount_1 22 rfl rfl)
theorem dJ18_bitCount_47 : decode cJ18_bitCount 47 = .ok (.istore_n 0, 1) := dk_59 (dk_at dksJ18_bitCount_1 23 rfl rfl)
theorem dJ18_bitCount_48 : decode cJ18_bitCount 48 = .ok (.iload_n 0, 1) := dk_26 (dk_at dksJ18_bitCount_2 0 rfl rfl)
theorem dJ18_bitCount_49 : decode cJ18_bitCount 49 = .ok (.bipush 63, 2) := dk_16 63 (dk_at dksJ18_bitCount_2 1 rfl rfl)
theorem dJ18_bitCount_51 : decode cJ18_bitCount 51 = .ok (.iand, 1) := dk_126 (dk_at dksJ18_bitCount_2 3 rfl rfl)
theorem dJ18_bitCount_52 : decode cJ18_bitCount 52 = .ok (.ireturn, 1) := dk_172 (dk_at dksJ18_bitCount_2 4 rfl rfl)
abbrev cX1_feed : ByteArray := prog_1_method_7_code
def yX1_feed : MethodName := ⟨RX1, "feed", "(IIIII)I"⟩
def dkwX1_feed_5 : List UInt8 := [180, 0, 71, 172]
abbrev dktX1_feed_5 : List UInt8 := dkwX1_feed_5 ++ []
def dkwX1_feed_4 : List UInt8 := [112, 104, 100, 122, 145, 84, 132, 6, 1, 167, 255, 172, 42, 89, 180, 0, 71, 16, 20, 96, 181, 0, 71, 42]
abbrev dktX1_feed_4 : List UInt8 := dkwX1_feed_4 ++ dktX1_feed_5
def dkwX1_feed_3 : List UInt8 := [21, 5, 54, 7, 42, 180, 0, 50, 42, 180, 0, 71, 21, 6, 96, 21, 7, 16, 24, 16, 8, 21, 6, 7]
abbrev dktX1_feed_3 : List UInt8 := dkwX1_feed_3 ++ dktX1_feed_4
def dkwX1_feed_2 : List UInt8 := [21, 6, 16, 12, 162, 0, 7, 29, 167, 0, 17, 21, 6, 16, 16, 162, 0, 8, 21, 4, 167, 0, 5]
abbrev dktX1_feed_2 : List UInt8 := dkwX1_feed_2 ++ dktX1_feed_3
def dkwX1_feed_1 : List UInt8 := [162, 0, 83, 21, 6, 7, 162, 0, 7, 27, 167, 0, 39, 21, 6, 16, 8, 162, 0, 7, 28, 167, 0, 28]
abbrev dktX1_feed_1 : List UInt8 := dkwX1_feed_1 ++ dktX1_feed_2
def dkwX1_feed_0 : List UInt8 := [42, 180, 0, 71, 16, 20, 96, 17, 2, 188, 164, 0, 5, 2, 172, 3, 54, 6, 21, 6, 16, 20]
abbrev dktX1_feed_0 : List UInt8 := dkwX1_feed_0 ++ dktX1_feed_1
theorem dksX1_feed_0 : cX1_feed.data.toList.drop 0 = dktX1_feed_0 := by decide +kernel
theorem dksX1_feed_1 : cX1_feed.data.toList.drop 22 = dktX1_feed_1 := dk_seg dksX1_feed_0 22 rfl rfl
theorem dksX1_feed_2 : cX1_feed.data.toList.drop 46 = dktX1_feed_2 := dk_seg dksX1_feed_1 24 rfl rfl
theorem dksX1_feed_3 : cX1_feed.data.toList.drop 69 = dktX1_feed_3 := dk_seg dksX1_feed_2 23 rfl rfl
theorem dksX1_feed_4 : cX1_feed.data.toList.drop 93 = dktX1_feed_4 := dk_seg dksX1_feed_3 24 rfl rfl
theorem dksX1_feed_5 : cX1_feed.data.toList.drop 117 = dktX1_feed_5 := dk_seg dksX1_feed_4 24 rfl rfl
theorem dX1_feed_0 : decode cX1_feed 0 = .ok (.aload_n 0, 1) := dk_42 (dk_at dksX1_feed_0 0 rfl rfl)
theorem dX1_feed_1 : decode cX1_feed 1 = .ok (.getfield 71, 3) := dk_180 0 71 (dk_at dksX1_feed_0 1 rfl rfl)
theorem dX1_feed_4 : decode cX1_feed 4 = .ok (.bipush 20, 2) := dk_16 20 (dk_at dksX1_feed_0 4 rfl rfl)
theorem dX1_feed_6 : decode cX1_feed 6 = .ok (.iadd, 1) := dk_96 (dk_at dksX1_feed_0 6 rfl rfl)
theorem dX1_feed_7 : decode cX1_feed 7 = .ok (.sipush 700, 3) := dk_17 2 188 (dk_at dksX1_feed_0 7 rfl rfl)
theorem dX1_feed_10 : decode cX1_feed 10 = .ok (.if_icmp .le 5, 3) := dk_164 0 5 (dk_at dksX1_feed_0 10 rfl rfl)
theorem dX1_feed_13 : decode cX1_feed 13 = .ok (.iconst (-1), 1) := dk_2 (dk_at dksX1_feed_0 13 rfl rfl)
theorem dX1_feed_14 : decode cX1_feed 14 = .ok (.ireturn, 1) := dk_172 (dk_at dksX1_feed_0 14 rfl rfl)
theorem dX1_feed_15 : decode cX1_feed 15 = .ok (.iconst 0, 1) := dk_3 (dk_at dksX1_feed_0 15 rfl rfl)
theorem dX1_feed_16 : decode cX1_feed 16 = .ok (.istore 6, 2) := dk_54 6 (dk_at dksX1_feed_0 16 rfl rfl)
theorem dX1_feed_18 : decode cX1_feed 18 = .ok (.iload 6, 2) := dk_21 6 (dk_at dksX1_feed_0 18 rfl rfl)
theorem dX1_feed_20 : decode cX1_feed 20 = .ok (.bipush 20, 2) := dk_16 20 (dk_at dksX1_feed_0 20 rfl rfl)
theorem dX1_feed_22 : decode cX1_feed 22 = .ok (.if_icmp .ge 83, 3) := dk_162 0 83 (dk_at dksX1_feed_1 0 rfl rfl)
theorem dX1_feed_25 : decode cX1_feed 25 = .ok (.iload 6, 2) := dk_21 6 (dk_at dksX1_feed_1 3 rfl rfl)
theorem dX1_feed_27 : decode cX1_feed 27 = .ok (.iconst 4, 1) := dk_7 (dk_at dksX1_feed_1 5 rfl rfl)
theorem dX1_feed_28 : decode cX1_feed 28 = .ok (.if_icmp .ge 7, 3) := dk_162 0 7 (dk_at dksX1_feed_1 6 rfl rfl)
theorem dX1_feed_31 : decode cX1_feed 31 = .ok (.iload_n 1, 1) := dk_27 (dk_at dksX1_feed_1 9 rfl rfl)
theorem dX1_feed_32 : decode cX1_feed 32 = .ok (.goto 39, 3) := dk_167 0 39 (dk_at dksX1_feed_1 10 rfl rfl)
theorem dX1_feed_35 : decode cX1_feed 35 = .ok (.iload 6, 2) := dk_21 6 (dk_at dksX1_feed_1 13 rfl rfl)
theorem dX1_feed_37 : decode cX1_feed 37 = .ok (.bipush 8, 2) := dk_16 8 (dk_at dksX1_feed_1 15 rfl rfl)
theorem dX1_feed_39 : decode cX1_feed 39 = .ok (.if_icmp .ge 7, 3) := dk_162 0 7 (dk_at dksX1_feed_1 17 rfl rfl)
theorem dX1_feed_42 : decode cX1_feed 42 = .ok (.iload_n 2, 1) := dk_28 (dk_at dksX1_feed_1 20 rfl rfl)
theorem dX1_feed_43 : decode cX1_feed 43 = .ok (.goto 28, 3) := dk_167 0 28 (dk_at dksX1_feed_1 21 rfl rfl)
theorem dX1_feed_46 : decode cX1_feed 46 = .ok (.iload 6, 2) := dk_21 6 (dk_at dksX1_feed_2 0 rfl rfl)
theorem dX1_feed_48 : decode cX1_feed 48 = .ok (.bipush 12, 2) := dk_16 12 (dk_at dksX1_feed_2 2 rfl rfl)
theorem dX1_feed_50 : decode cX1_feed 50 = .ok (.if_icmp .ge 7, 3) := dk_162 0 7 (dk_at dksX1_feed_2 4 rfl rfl)
theorem dX1_feed_53 : decode cX1_feed 53 = .ok (.iload_n 3, 1) := dk_29 (dk_at dksX1_feed_2 7 rfl rfl)
theorem dX1_feed_54 : decode cX1_feed 54 = .ok (.goto 17, 3) := dk_167 0 17 (dk_at dksX1_feed_2 8 rfl rfl)
theorem dX1_feed_57 : decode cX1_feed 57 = .ok (.iload 6, 2) := dk_21 6 (dk_at dksX1_feed_2 11 rfl rfl)
theorem dX1_feed_59 : decode cX1_feed 59 = .ok (.bipush 16, 2) := dk_16 16 (dk_at dksX1_feed_2 13 rfl rfl)
theorem dX1_feed_61 : decode cX1_feed 61 = .ok (.if_icmp .ge 8, 3) := dk_162 0 8 (dk_at dksX1_feed_2 15 rfl rfl)
theorem dX1_feed_64 : decode cX1_feed 64 = .ok (.iload 4, 2) := dk_21 4 (dk_at dksX1_feed_2 18 rfl rfl)
theorem dX1_feed_66 : decode cX1_feed 66 = .ok (.goto 5, 3) := dk_167 0 5 (dk_at dksX1_feed_2 20 rfl rfl)
theorem dX1_feed_69 : decode cX1_feed 69 = .ok (.iload 5, 2) := dk_21 5 (dk_at dksX1_feed_3 0 rfl rfl)
theorem dX1_feed_71 : decode cX1_feed 71 = .ok (.istore 7, 2) := dk_54 7 (dk_at dksX1_feed_3 2 rfl rfl)
theorem dX1_feed_73 : decode cX1_feed 73 = .ok (.aload_n 0, 1) := dk_42 (dk_at dksX1_feed_3 4 rfl rfl)
theorem dX1_feed_74 : decode cX1_feed 74 = .ok (.getfield 50, 3) := dk_180 0 50 (dk_at dksX1_feed_3 5 rfl rfl)
theorem dX1_feed_77 : decode cX1_feed 77 = .ok (.aload_n 0, 1) := dk_42 (dk_at dksX1_feed_3 8 rfl rfl)
theorem dX1_feed_78 : decode cX1_feed 78 = .ok (.getfield 71, 3) := dk_180 0 71 (dk_at dksX1_feed_3 9 rfl rfl)
theorem dX1_feed_81 : decode cX1_feed 81 = .ok (.iload 6, 2) := dk_21 6 (dk_at dksX1_feed_3 12 rfl rfl)
theorem dX1_feed_83 : decode cX1_feed 83 = .ok (.iadd, 1) := dk_96 (dk_at dksX1_feed_3 14 rfl rfl)
theorem dX1_feed_84 : decode cX1_feed 84 = .ok (.iload 7, 2) := dk_21 7 (dk_at dksX1_feed_3 15 rfl rfl)
theorem dX1_feed_86 : decode cX1_feed 86 = .ok (.bipush 24, 2) := dk_16 24 (dk_at dksX1_feed_3 17 rfl rfl)
theorem dX1_feed_88 : decode cX1_feed 88 = .ok (.bipush 8, 2) := dk_16 8 (dk_at dksX1_feed_3 19 rfl rfl)
theorem dX1_feed_90 : decode cX1_feed 90 = .ok (.iload 6, 2) := dk_21 6 (dk_at dksX1_feed_3 21 rfl rfl)
theorem dX1_feed_92 : decode cX1_feed 92 = .ok (.iconst 4, 1) := dk_7 (dk_at dksX1_feed_3 23 rfl rfl)
theorem dX1_feed_93 : decode cX1_feed 93 = .ok (.irem, 1) := dk_112 (dk_at dksX1_feed_4 0 rfl rfl)
theorem dX1_feed_94 : decode cX1_feed 94 = .ok (.imul, 1) := dk_104 (dk_at dksX1_feed_4 1 rfl rfl)
theorem dX1_feed_95 : decode cX1_feed 95 = .ok (.isub, 1) := dk_100 (dk_at dksX1_feed_4 2 rfl rfl)
theorem dX1_feed_96 : decode cX1_feed 96 = .ok (.ishr, 1) := dk_122 (dk_at dksX1_feed_4 3 rfl rfl)
theorem dX1_feed_97 : decode cX1_feed 97 = .ok (.i2b, 1) := dk_145 (dk_at dksX1_feed_4 4 rfl rfl)
theorem dX1_feed_98 : decode cX1_feed 98 = .ok (.bastore, 1) := dk_84 (dk_at dksX1_feed_4 5 rfl rfl)
theorem dX1_feed_99 : decode cX1_feed 99 = .ok (.iinc 6 1, 3) := dk_132 6 1 (dk_at dksX1_feed_4 6 rfl rfl)
theorem dX1_feed_102 : decode cX1_feed 102 = .ok (.goto (-84), 3) := dk_167 255 172 (dk_at dksX1_feed_4 9 rfl rfl)
theorem dX1_feed_105 : decode cX1_feed 105 = .ok (.aload_n 0, 1) := dk_42 (dk_at dksX1_feed_4 12 rfl rfl)
theorem dX1_feed_106 : decode cX1_feed 106 = .ok (.dup, 1) := dk_89 (dk_at dksX1_feed_4 13 rfl rfl)
theorem dX1_feed_107 : decode cX1_feed 107 = .ok (.getfield 71, 3) := dk_180 0 71 (dk_at dksX1_feed_4 14 rfl rfl)
theorem dX1_feed_110 : decode cX1_feed 110 = .ok (.bipush 20, 2) := dk_16 20 (dk_at dksX1_feed_4 17 rfl rfl)
theorem dX1_feed_112 : decode cX1_feed 112 = .ok (.iadd, 1) := dk_96 (dk_at dksX1_feed_4 19 rfl rfl)
theorem dX1_feed_113 : decode cX1_feed 113 = .ok (.putfield 71, 3) := dk_181 0 71 (dk_at dksX1_feed_4 20 rfl rfl)
theorem dX1_feed_116 : decode cX1_feed 116 = .ok (.aload_n 0, 1) := dk_42 (dk_at dksX1_feed_4 23 rfl rfl)
theorem dX1_feed_117 : decode cX1_feed 117 = .ok (.getfield 71, 3) := dk_180 0 71 (dk_at dksX1_feed_5 0 rfl rfl)
theorem dX1_feed_120 : decode cX1_feed 120 = .ok (.ireturn, 1) := dk_172 (dk_at dksX1_feed_5 3 rfl rfl)
abbrev cX1_fault : ByteArray := prog_1_method_9_code
def yX1_fault : MethodName := ⟨RX1, "fault", "()I"⟩
theorem dX1_fault_0 : decode cX1_fault 0 = .ok (.aload_n 0, 1) := by decide +kernel
theorem dX1_fault_1 : decode cX1_fault 1 = .ok (.getfield 54, 3) := by decide +kernel
theorem dX1_fault_4 : decode cX1_fault 4 = .ok (.ireturn, 1) := by decide +kernel
abbrev cX1_in : ByteArray := prog_1_method_1_code
def yX1_in : MethodName := ⟨RX1, "in", "(III)Z"⟩
def dkwX1_in_0 : List UInt8 := [26, 27, 161, 0, 12, 26, 28, 163, 0, 7, 4, 167, 0, 4, 3, 172]
abbrev dktX1_in_0 : List UInt8 := dkwX1_in_0 ++ []
theorem dksX1_in_0 : cX1_in.data.toList.drop 0 = dktX1_in_0 := by decide +kernel
theorem dX1_in_0 : decode cX1_in 0 = .ok (.iload_n 0, 1) := dk_26 (dk_at dksX1_in_0 0 rfl rfl)
theorem dX1_in_1 : decode cX1_in 1 = .ok (.iload_n 1, 1) := dk_27 (dk_at dksX1_in_0 1 rfl rfl)
theorem dX1_in_2 : decode cX1_in 2 = .ok (.if_icmp .lt 12, 3) := dk_161 0 12 (dk_at dksX1_in_0 2 rfl rfl)
theorem dX1_in_5 : decode cX1_in 5 = .ok (.iload_n 0, 1) := dk_26 (dk_at dksX1_in_0 5 rfl rfl)
theorem dX1_in_6 : decode cX1_in 6 = .ok (.iload_n 2, 1) := dk_28 (dk_at dksX1_in_0 6 rfl rfl)
theorem dX1_in_7 : decode cX1_in 7 = .ok (.if_icmp .gt 7, 3) := dk_163 0 7 (dk_at dksX1_in_0 7 rfl rfl)
theorem dX1_in_10 : decode cX1_in 10 = .ok (.iconst 1, 1) := dk_4 (dk_at dksX1_in_0 10 rfl rfl)
theorem dX1_in_11 : decode cX1_in 11 = .ok (.goto 4, 3) := dk_167 0 4 (dk_at dksX1_in_0 11 rfl rfl)
theorem dX1_in_14 : decode cX1_in 14 = .ok (.iconst 0, 1) := dk_3 (dk_at dksX1_in_0 14 rfl rfl)
theorem dX1_in_15 : decode cX1_in 15 = .ok (.ireturn, 1) := dk_172 (dk_at dksX1_in_0 15 rfl rfl)
abbrev cX1_refuse : ByteArray := prog_1_method_18_code
def yX1_refuse : MethodName := ⟨RX1, "refuse", "(I)I"⟩
def dkwX1_refuse_0 : List UInt8 := [42, 180, 0, 58, 27, 92, 46, 4, 96, 79, 2, 172]
abbrev dktX1_refuse_0 : List UInt8 := dkwX1_refuse_0 ++ []
theorem dksX1_refuse_0 : cX1_refuse.data.toList.drop 0 = dktX1_refuse_0 := by decide +kernel
theorem dX1_refuse_0 : decode cX1_refuse 0 = .ok (.aload_n 0, 1) := dk_42 (dk_at dksX1_refuse_0 0 rfl rfl)
theorem dX1_refuse_1 : decode cX1_refuse 1 = .ok (.getfield 58, 3) := dk_180 0 58 (dk_at dksX1_refuse_0 1 rfl rfl)
theorem dX1_refuse_4 : decode cX1_refuse 4 = .ok (.iload_n 1, 1) := dk_27 (dk_at dksX1_refuse_0 4 rfl rfl)
theorem dX1_refuse_5 : decode cX1_refuse 5 = .ok (.dup2, 1) := dk_92 (dk_at dksX1_refuse_0 5 rfl rfl)
theorem dX1_refuse_6 : decode cX1_refuse 6 = .ok (.iaload, 1) := dk_46 (dk_at dksX1_refuse_0 6 rfl rfl)
theorem dX1_refuse_7 : decode cX1_refuse 7 = .ok (.iconst 1, 1) := dk_4 (dk_at dksX1_refuse_0 7 rfl rfl)
theorem dX1_refuse_8 : decode cX1_refuse 8 = .ok (.iadd, 1) := dk_96 (dk_at dksX1_refuse_0 8 rfl rfl)
theorem dX1_refuse_9 : decode cX1_refuse 9 = .ok (.iastore, 1) := dk_79 (dk_at dksX1_refuse_0 9 rfl rfl)
theorem dX1_refuse_10 : decode cX1_refuse 10 = .ok (.iconst (-1), 1) := dk_2 (dk_at dksX1_refuse_0 10 rfl rfl)
theorem dX1_refuse_11 : decode cX1_refuse 11 = .ok (.ireturn, 1) := dk_172 (dk_at dksX1_refuse_0 11 rfl rfl)
abbrev cX1_within : ByteArray := prog_1_method_5_code
def yX1_within : MethodName := ⟨RX1, "within", "(III)I"⟩
def dkwX1_within_0 : List UInt8 := [27, 28, 26, 184, 0, 10, 184, 0, 16, 172]
abbrev dktX1_within_0 : List UInt8 := dkwX1_within_0 ++ []
theorem dksX1_within_0 : cX1_within.data.toList.drop 0 = dktX1_within_0 := by decide +kernel
theorem dX1_within_0 : decode cX1_within 0 = .ok (.iload_n 1, 1) := dk_27 (dk_at dksX1_within_0 0 rfl rfl)
theorem dX1_within_1 : decode cX1_within 1 = .ok (.iload_n 2, 1) := dk_28 (dk_at dksX1_within_0 1 rfl rfl)
theorem dX1_within_2 : decode cX1_within 2 = .ok (.iload_n 0, 1) := dk_26 (dk_at dksX1_within_0 2 rfl rfl)
theorem dX1_within_3 : decode cX1_within 3 = .ok (.invokestatic 10, 3) := dk_184 0 10 (dk_at dksX1_within_0 3 rfl rfl)
theorem dX1_within_6 : decode cX1_within 6 = .ok (.invokestatic 16, 3) := dk_184 0 16 (dk_at dksX1_within_0 6 rfl rfl)
theorem dX1_within_9 : decode cX1_within 9 = .ok (.ireturn, 1) := dk_172 (dk_at dksX1_within_0 9 rfl rfl)
abbrev cX3_be : ByteArray := prog_4_method_3_code
def yX3_be : MethodName := ⟨RX3, "be", "(LHorizonSeam$Line;)LHorizonSeam$Line;"⟩
def dkwX3_be_4 : List UInt8 := [181, 0, 41, 42, 176]
abbrev dktX3_be_4 : List UInt8 := dkwX3_be_4 ++ []
def dkwX3_be_3 : List UInt8 := [180, 0, 28, 28, 43, 180, 0, 28, 28, 46, 79, 132, 2, 1, 167, 255, 223, 42, 43, 180, 0, 41]
abbrev dktX3_be_3 : List UInt8 := dkwX3_be_3 ++ dktX3_be_4
def dkwX3_be_2 : List UInt8 := [167, 255, 211, 3, 61, 28, 16, 6, 162, 0, 33, 42, 180, 0, 25, 28, 43, 180, 0, 25, 28, 46, 79, 42]
abbrev dktX3_be_2 : List UInt8 := dkwX3_be_2 ++ dktX3_be_3
def dkwX3_be_1 : List UInt8 := [28, 43, 180, 0, 19, 28, 46, 79, 42, 180, 0, 22, 28, 43, 180, 0, 22, 28, 46, 79, 132, 2, 1]
abbrev dktX3_be_1 : List UInt8 := dkwX3_be_1 ++ dktX3_be_2
def dkwX3_be_0 : List UInt8 := [3, 61, 28, 16, 12, 162, 0, 45, 42, 180, 0, 15, 28, 43, 180, 0, 15, 28, 46, 79, 42, 180, 0, 19]
abbrev dktX3_be_0 : List UInt8 := dkwX3_be_0 ++ dktX3_be_1
theorem dksX3_be_0 : cX3_be.data.toList.drop 0 = dktX3_be_0 := by decide +kernel
theorem dksX3_be_1 : cX3_be.data.toList.drop 24 = dktX3_be_1 := dk_seg dksX3_be_0 24 rfl rfl
theorem dksX3_be_2 : cX3_be.data.toList.drop 47 = dktX3_be_2 := dk_seg dksX3_be_1 23 rfl rfl
theorem dksX3_be_3 : cX3_be.data.toList.drop 71 = dktX3_be_3 := dk_seg dksX3_be_2 24 rfl rfl
theorem dksX3_be_4 : cX3_be.data.toList.drop 93 = dktX3_be_4 := dk_seg dksX3_be_3 22 rfl rfl
theorem dX3_be_0 : decode cX3_be 0 = .ok (.iconst 0, 1) := dk_3 (dk_at dksX3_be_0 0 rfl rfl)
theorem dX3_be_1 : decode cX3_be 1 = .ok (.istore_n 2, 1) := dk_61 (dk_at dksX3_be_0 1 rfl rfl)
theorem dX3_be_2 : decode cX3_be 2 = .ok (.iload_n 2, 1) := dk_28 (dk_at dksX3_be_0 2 rfl rfl)
theorem dX3_be_3 : decode cX3_be 3 = .ok (.bipush 12, 2) := dk_16 12 (dk_at dksX3_be_0 3 rfl rfl)
theorem dX3_be_5 : decode cX3_be 5 = .ok (.if_icmp .ge 45, 3) := dk_162 0 45 (dk_at dksX3_be_0 5 rfl rfl)
theorem dX3_be_8 : decode cX3_be 8 = .ok (.aload_n 0, 1) := dk_42 (dk_at dksX3_be_0 8 rfl rfl)
theorem dX3_be_9 : decode cX3_be 9 = .ok (.getfield 15, 3) := dk_180 0 15 (dk_at dksX3_be_0 9 rfl rfl)
theorem dX3_be_12 : decode cX3_be 12 = .ok (.iload_n 2, 1) := dk_28 (dk_at dksX3_be_0 12 rfl rfl)
theorem dX3_be_13 : decode cX3_be 13 = .ok (.aload_n 1, 1) := dk_43 (dk_at dksX3_be_0 13 rfl rfl)
theorem dX3_be_14 : decode cX3_be 14 = .ok (.getfield 15, 3) := dk_180 0 15 (dk_at dksX3_be_0 14 rfl rfl)
theorem dX3_be_17 : decode cX3_be 17 = .ok (.iload_n 2, 1) := dk_28 (dk_at dksX3_be_0 17 rfl rfl)
theorem dX3_be_18 : decode cX3_be 18 = .ok (.iaload, 1) := dk_46 (dk_at dksX3_be_0 18 rfl rfl)
theorem dX3_be_19 : decode cX3_be 19 = .ok (.iastore, 1) := dk_79 (dk_at dksX3_be_0 19 rfl rfl)
theorem dX3_be_20 : decode cX3_be 20 = .ok (.aload_n 0, 1) := dk_42 (dk_at dksX3_be_0 20 rfl rfl)
theorem dX3_be_21 : decode cX3_be 21 = .ok (.getfield 19, 3) := dk_180 0 19 (dk_at dksX3_be_0 21 rfl rfl)
theorem dX3_be_24 : decode cX3_be 24 = .ok (.iload_n 2, 1) := dk_28 (dk_at dksX3_be_1 0 rfl rfl)
theorem dX3_be_25 : decode cX3_be 25 = .ok (.aload_n 1, 1) := dk_43 (dk_at dksX3_be_1 1 rfl rfl)
theorem dX3_be_26 : decode cX3_be 26 = .ok (.getfield 19, 3) := dk_180 0 19 (dk_at dksX3_be_1 2 rfl rfl)
theorem dX3_be_29 : decode cX3_be 29 = .ok (.iload_n 2, 1) := dk_28 (dk_at dksX3_be_1 5 rfl rfl)
theorem dX3_be_30 : decode cX3_be 30 = .ok (.iaload, 1) := dk_46 (dk_at dksX3_be_1 6 rfl rfl)
theorem dX3_be_31 : decode cX3_be 31 = .ok (.iastore, 1) := dk_79 (dk_at dksX3_be_1 7 rfl rfl)
theorem dX3_be_32 : decode cX3_be 32 = .ok (.aload_n 0, 1) := dk_42 (dk_at dksX3_be_1 8 rfl rfl)
theorem dX3_be_33 : decode cX3_be 33 = .ok (.getfield 22, 3) := dk_180 0 22 (dk_at dksX3_be_1 9 rfl rfl)
theorem dX3_be_36 : decode cX3_be 36 = .ok (.iload_n 2, 1) := dk_28 (dk_at dksX3_be_1 12 rfl rfl)
theorem dX3_be_37 : decode cX3_be 37 = .ok (.aload_n 1, 1) := dk_43 (dk_at dksX3_be_1 13 rfl rfl)
theorem dX3_be_38 : decode cX3_be 38 = .ok (.getfield 22, 3) := dk_180 0 22 (dk_at dksX3_be_1 14 rfl rfl)
theorem dX3_be_41 : decode cX3_be 41 = .ok (.iload_n 2, 1) := dk_28 (dk_at dksX3_be_1 17 rfl rfl)
theorem dX3_be_42 : decode cX3_be 42 = .ok (.iaload, 1) := dk_46 (dk_at dksX3_be_1 18 rfl rfl)
theorem dX3_be_43 : decode cX3_be 43 = .ok (.iastore, 1) := dk_79 (dk_at dksX3_be_1 19 rfl rfl)
theorem dX3_be_44 : decode cX3_be 44 = .ok (.iinc 2 1, 3) := dk_132 2 1 (dk_at dksX3_be_1 20 rfl rfl)
theorem dX3_be_47 : decode cX3_be 47 = .ok (.goto (-45), 3) := dk_167 255 211 (dk_at dksX3_be_2 0 rfl rfl)
theorem dX3_be_50 : decode cX3_be 50 = .ok (.iconst 0, 1) := dk_3 (dk_at dksX3_be_2 3 rfl rfl)
theorem dX3_be_51 : decode cX3_be 51 = .ok (.istore_n 2, 1) := dk_61 (dk_at dksX3_be_2 4 rfl rfl)
theorem dX3_be_52 : decode cX3_be 52 = .ok (.iload_n 2, 1) := dk_28 (dk_at dksX3_be_2 5 rfl rfl)
theorem dX3_be_53 : decode cX3_be 53 = .ok (.bipush 6, 2) := dk_16 6 (dk_at dksX3_be_2 6 rfl rfl)
theorem dX3_be_55 : decode cX3_be 55 = .ok (.if_icmp .ge 33, 3) := dk_162 0 33 (dk_at dksX3_be_2 8 rfl rfl)
theorem dX3_be_58 : decode cX3_be 58 = .ok (.aload_n 0, 1) := dk_42 (dk_at dksX3_be_2 11 rfl rfl)
theorem dX3_be_59 : decode cX3_be 59 = .ok (.getfield 25, 3) := dk_180 0 25 (dk_at dksX3_be_2 12 rfl rfl)
theorem dX3_be_62 : decode cX3_be 62 = .ok (.iload_n 2, 1) := dk_28 (dk_at dksX3_be_2 15 rfl rfl)
theorem dX3_be_63 : decode cX3_be 63 = .ok (.aload_n 1, 1) := dk_43 (dk_at dksX3_be_2 16 rfl rfl)
theorem dX3_be_64 : decode cX3_be 64 = .ok (.getfield 25, 3) := dk_180 0 25 (dk_at dksX3_be_2 17 rfl rfl)
theorem dX3_be_67 : decode cX3_be 67 = .ok (.iload_n 2, 1) := dk_28 (dk_at dksX3_be_2 20 rfl rfl)
theorem dX3_be_68 : decode cX3_be 68 = .ok (.iaload, 1) := dk_46 (dk_at dksX3_be_2 21 rfl rfl)
theorem dX3_be_69 : decode cX3_be 69 = .ok (.iastore, 1) := dk_79 (dk_at dksX3_be_2 22 rfl rfl)
theorem dX3_be_70 : decode cX3_be 70 = .ok (.aload_n 0, 1) := dk_42 (dk_at dksX3_be_2 23 rfl rfl)
theorem dX3_be_71 : decode cX3_be 71 = .ok (.getfield 28, 3) := dk_180 0 28 (dk_at dksX3_be_3 0 rfl rfl)
theorem dX3_be_74 : decode cX3_be 74 = .ok (.iload_n 2, 1) := dk_28 (dk_at dksX3_be_3 3 rfl rfl)
theorem dX3_be_75 : decode cX3_be 75 = .ok (.aload_n 1, 1) := dk_43 (dk_at dksX3_be_3 4 rfl rfl)
theorem dX3_be_76 : decode cX3_be 76 = .ok (.getfield 28, 3) := dk_180 0 28 (dk_at dksX3_be_3 5 rfl rfl)
theorem dX3_be_79 : decode cX3_be 79 = .ok (.iload_n 2, 1) := dk_28 (dk_at dksX3_be_3 8 rfl rfl)
theorem dX3_be_80 : decode cX3_be 80 = .ok (.iaload, 1) := dk_46 (dk_at dksX3_be_3 9 rfl rfl)
theorem dX3_be_81 : decode cX3_be 81 = .ok (.iastore, 1) := dk_79 (dk_at dksX3_be_3 10 rfl rfl)
theorem dX3_be_82 : decode cX3_be 82 = .ok (.iinc 2 1, 3) := dk_132 2 1 (dk_at dksX3_be_3 11 rfl rfl)
theorem dX3_be_85 : decode cX3_be 85 = .ok (.goto (-33), 3) := dk_167 255 223 (dk_at dksX3_be_3 14 rfl rfl)
theorem dX3_be_88 : decode cX3_be 88 = .ok (.aload_n 0, 1) := dk_42 (dk_at dksX3_be_3 17 rfl rfl)
theorem dX3_be_89 : decode cX3_be 89 = .ok (.aload_n 1, 1) := dk_43 (dk_at dksX3_be_3 18 rfl rfl)
theorem dX3_be_90 : decode cX3_be 90 = .ok (.getfield 41, 3) := dk_180 0 41 (dk_at dksX3_be_3 19 rfl rfl)
theorem dX3_be_93 : decode cX3_be 93 = .ok (.putfield 41, 3) := dk_181 0 41 (dk_at dksX3_be_4 0 rfl rfl)
theorem dX3_be_96 : decode cX3_be 96 = .ok (.aload_n 0, 1) := dk_42 (dk_at dksX3_be_4 3 rfl rfl)
theorem dX3_be_97 : decode cX3_be 97 = .ok (.areturn, 1) := dk_176 (dk_at dksX3_be_4 4 rfl rfl)
abbrev cX3_isOpen : ByteArray := prog_4_method_4_code
def yX3_isOpen : MethodName := ⟨RX3, "isOpen", "(I)Z"⟩
def dkwX3_isOpen_0 : List UInt8 := [42, 180, 0, 19, 27, 46, 154, 0, 7, 4, 167, 0, 4, 3, 172]
abbrev dktX3_isOpen_0 : List UInt8 := dkwX3_isOpen_0 ++ []
theorem dksX3_isOpen_0 : cX3_isOpen.data.toList.drop 0 = dktX3_isOpen_0 := by decide +kernel
theorem dX3_isOpen_0 : decode cX3_isOpen 0 = .ok (.aload_n 0, 1) := dk_42 (dk_at dksX3_isOpen_0 0 rfl rfl)
theorem dX3_isOpen_1 : decode cX3_isOpen 1 = .ok (.getfield 19, 3) := dk_180 0 19 (dk_at dksX3_isOpen_0 1 rfl rfl)
theorem dX3_isOpen_4 : decode cX3_isOpen 4 = .ok (.iload_n 1, 1) := dk_27 (dk_at dksX3_isOpen_0 4 rfl rfl)
theorem dX3_isOpen_5 : decode cX3_isOpen 5 = .ok (.iaload, 1) := dk_46 (dk_at dksX3_isOpen_0 5 rfl rfl)
theorem dX3_isOpen_6 : decode cX3_isOpen 6 = .ok (.ifCond .ne 7, 3) := dk_154 0 7 (dk_at dksX3_isOpen_0 6 rfl rfl)
theorem dX3_isOpen_9 : decode cX3_isOpen 9 = .ok (.iconst 1, 1) := dk_4 (dk_at dksX3_isOpen_0 9 rfl rfl)
theorem dX3_isOpen_10 : decode cX3_isOpen 10 = .ok (.goto 4, 3) := dk_167 0 4 (dk_at dksX3_isOpen_0 10 rfl rfl)
theorem dX3_isOpen_13 : decode cX3_isOpen 13 = .ok (.iconst 0, 1) := dk_3 (dk_at dksX3_isOpen_0 13 rfl rfl)
theorem dX3_isOpen_14 : decode cX3_isOpen 14 = .ok (.ireturn, 1) := dk_172 (dk_at dksX3_isOpen_0 14 rfl rfl)
abbrev cX2_after : ByteArray := prog_8_method_3_code
def yX2_after : MethodName := ⟨RX2, "after", "(I)I"⟩
def dkwX2_after_0 : List UInt8 := [27, 4, 96, 42, 180, 0, 21, 112, 172]
abbrev dktX2_after_0 : List UInt8 := dkwX2_after_0 ++ []
theorem dksX2_after_0 : cX2_after.data.toList.drop 0 = dktX2_after_0 := by decide +kernel
theorem dX2_after_0 : decode cX2_after 0 = .ok (.iload_n 1, 1) := dk_27 (dk_at dksX2_after_0 0 rfl rfl)
theorem dX2_after_1 : decode cX2_after 1 = .ok (.iconst 1, 1) := dk_4 (dk_at dksX2_after_0 1 rfl rfl)
theorem dX2_after_2 : decode cX2_after 2 = .ok (.iadd, 1) := dk_96 (dk_at dksX2_after_0 2 rfl rfl)
theorem dX2_after_3 : decode cX2_after 3 = .ok (.aload_n 0, 1) := dk_42 (dk_at dksX2_after_0 3 rfl rfl)
theorem dX2_after_4 : decode cX2_after 4 = .ok (.getfield 21, 3) := dk_180 0 21 (dk_at dksX2_after_0 4 rfl rfl)
theorem dX2_after_7 : decode cX2_after 7 = .ok (.irem, 1) := dk_112 (dk_at dksX2_after_0 7 rfl rfl)
theorem dX2_after_8 : decode cX2_after 8 = .ok (.ireturn, 1) := dk_172 (dk_at dksX2_after_0 8 rfl rfl)
abbrev cX2_before : ByteArray := prog_8_method_4_code
def yX2_before : MethodName := ⟨RX2, "before", "(I)I"⟩
def dkwX2_before_0 : List UInt8 := [27, 42, 180, 0, 21, 96, 4, 100, 42, 180, 0, 21, 112, 172]
abbrev dktX2_before_0 : List UInt8 := dkwX2_before_0 ++ []
theorem dksX2_before_0 : cX2_before.data.toList.drop 0 = dktX2_before_0 := by decide +kernel
theorem dX2_before_0 : decode cX2_before 0 = .ok (.iload_n 1, 1) := dk_27 (dk_at dksX2_before_0 0 rfl rfl)
theorem dX2_before_1 : decode cX2_before 1 = .ok (.aload_n 0, 1) := dk_42 (dk_at dksX2_before_0 1 rfl rfl)
theorem dX2_before_2 : decode cX2_before 2 = .ok (.getfield 21, 3) := dk_180 0 21 (dk_at dksX2_before_0 2 rfl rfl)
theorem dX2_before_5 : decode cX2_before 5 = .ok (.iadd, 1) := dk_96 (dk_at dksX2_before_0 5 rfl rfl)
theorem dX2_before_6 : decode cX2_before 6 = .ok (.iconst 1, 1) := dk_4 (dk_at dksX2_before_0 6 rfl rfl)
theorem dX2_before_7 : decode cX2_before 7 = .ok (.isub, 1) := dk_100 (dk_at dksX2_before_0 7 rfl rfl)
theorem dX2_before_8 : decode cX2_before 8 = .ok (.aload_n 0, 1) := dk_42 (dk_at dksX2_before_0 8 rfl rfl)
theorem dX2_before_9 : decode cX2_before 9 = .ok (.getfield 21, 3) := dk_180 0 21 (dk_at dksX2_before_0 9 rfl rfl)
theorem dX2_before_12 : decode cX2_before 12 = .ok (.irem, 1) := dk_112 (dk_at dksX2_before_0 12 rfl rfl)
theorem dX2_before_13 : decode cX2_before 13 = .ok (.ireturn, 1) := dk_172 (dk_at dksX2_before_0 13 rfl rfl)
abbrev cX3_beside : ByteArray := prog_4_method_6_code
def yX3_beside : MethodName := ⟨RX3, "beside", "(I)I"⟩
def dkwX3_beside_1 : List UInt8 := [180, 0, 45, 27, 182, 0, 59, 46, 96, 172]
abbrev dktX3_beside_1 : List UInt8 := dkwX3_beside_1 ++ []
def dkwX3_beside_0 : List UInt8 := [42, 180, 0, 15, 42, 180, 0, 3, 180, 0, 45, 27, 182, 0, 55, 46, 42, 180, 0, 15, 42, 180, 0, 3]
abbrev dktX3_beside_0 : List UInt8 := dkwX3_beside_0 ++ dktX3_beside_1
theorem dksX3_beside_0 : cX3_beside.data.toList.drop 0 = dktX3_beside_0 := by decide +kernel
theorem dksX3_beside_1 : cX3_beside.data.toList.drop 24 = dktX3_beside_1 := dk_seg dksX3_beside_0 24 rfl rfl
theorem dX3_beside_0 : decode cX3_beside 0 = .ok (.aload_n 0, 1) := dk_42 (dk_at dksX3_beside_0 0 rfl rfl)
theorem dX3_beside_1 : decode cX3_beside 1 = .ok (.getfield 15, 3) := dk_180 0 15 (dk_at dksX3_beside_0 1 rfl rfl)
theorem dX3_beside_4 : decode cX3_beside 4 = .ok (.aload_n 0, 1) := dk_42 (dk_at dksX3_beside_0 4 rfl rfl)
theorem dX3_beside_5 : decode cX3_beside 5 = .ok (.getfield 3, 3) := dk_180 0 3 (dk_at dksX3_beside_0 5 rfl rfl)
theorem dX3_beside_8 : decode cX3_beside 8 = .ok (.getfield 45, 3) := dk_180 0 45 (dk_at dksX3_beside_0 8 rfl rfl)
theorem dX3_beside_11 : decode cX3_beside 11 = .ok (.iload_n 1, 1) := dk_27 (dk_at dksX3_beside_0 11 rfl rfl)
theorem dX3_beside_12 : decode cX3_beside 12 = .ok (.invokevirtual 55, 3) := dk_182 0 55 (dk_at dksX3_beside_0 12 rfl rfl)
theorem dX3_beside_15 : decode cX3_beside 15 = .ok (.iaload, 1) := dk_46 (dk_at dksX3_beside_0 15 rfl rfl)
theorem dX3_beside_16 : decode cX3_beside 16 = .ok (.aload_n 0, 1) := dk_42 (dk_at dksX3_beside_0 16 rfl rfl)
theorem dX3_beside_17 : decode cX3_beside 17 = .ok (.getfield 15, 3) := dk_180 0 15 (dk_at dksX3_beside_0 17 rfl rfl)
theorem dX3_beside_20 : decode cX3_beside 20 = .ok (.aload_n 0, 1) := dk_42 (dk_at dksX3_beside_0 20 rfl rfl)
theorem dX3_beside_21 : decode cX3_beside 21 = .ok (.getfield 3, 3) := dk_180 0 3 (dk_at dksX3_beside_0 21 rfl rfl)
theorem dX3_beside_24 : decode cX3_beside 24 = .ok (.getfield 45, 3) := dk_180 0 45 (dk_at dksX3_beside_1 0 rfl rfl)
theorem dX3_beside_27 : decode cX3_beside 27 = .ok (.iload_n 1, 1) := dk_27 (dk_at dksX3_beside_1 3 rfl rfl)
theorem dX3_beside_28 : decode cX3_beside 28 = .ok (.invokevirtual 59, 3) := dk_182 0 59 (dk_at dksX3_beside_1 4 rfl rfl)
theorem dX3_beside_31 : decode cX3_beside 31 = .ok (.iaload, 1) := dk_46 (dk_at dksX3_beside_1 7 rfl rfl)
theorem dX3_beside_32 : decode cX3_beside 32 = .ok (.iadd, 1) := dk_96 (dk_at dksX3_beside_1 8 rfl rfl)
theorem dX3_beside_33 : decode cX3_beside 33 = .ok (.ireturn, 1) := dk_172 (dk_at dksX3_beside_1 9 rfl rfl)
abbrev cX2_women : ByteArray := prog_8_method_2_code
def yX2_women : MethodName := ⟨RX2, "women", "()I"⟩
def dkwX2_women_0 : List UInt8 := [42, 180, 0, 12, 185, 0, 28, 1, 0, 172]
abbrev dktX2_women_0 : List UInt8 := dkwX2_women_0 ++ []
theorem dksX2_women_0 : cX2_women.data.toList.drop 0 = dktX2_women_0 := by decide +kernel
theorem dX2_women_0 : decode cX2_women 0 = .ok (.aload_n 0, 1) := dk_42 (dk_at dksX2_women_0 0 rfl rfl)
theorem dX2_women_1 : decode cX2_women 1 = .ok (.getfield 12, 3) := dk_180 0 12 (dk_at dksX2_women_0 1 rfl rfl)
theorem dX2_women_4 : decode cX2_women 4 = .ok (.invokeinterface 28 1, 5) := by decide +kernel
theorem dX2_women_9 : decode cX2_women 9 = .ok (.ireturn, 1) := dk_172 (dk_at dksX2_women_0 9 rfl rfl)
abbrev cX3_womenAt : ByteArray := prog_4_method_5_code
def yX3_womenAt : MethodName := ⟨RX3, "womenAt", "(I)I"⟩
def dkwX3_womenAt_1 : List UInt8 := [27, 160, 0, 9, 28, 4, 29, 120, 128, 61, 132, 3, 1, 167, 255, 223, 28, 172]
abbrev dktX3_womenAt_1 : List UInt8 := dkwX3_womenAt_1 ++ []
def dkwX3_womenAt_0 : List UInt8 := [3, 61, 3, 62, 29, 42, 180, 0, 3, 180, 0, 45, 182, 0, 49, 162, 0, 25, 42, 180, 0, 25, 29, 46]
abbrev dktX3_womenAt_0 : List UInt8 := dkwX3_womenAt_0 ++ dktX3_womenAt_1
theorem dksX3_womenAt_0 : cX3_womenAt.data.toList.drop 0 = dktX3_womenAt_0 := by decide +kernel
theorem dksX3_womenAt_1 : cX3_womenAt.data.toList.drop 24 = dktX3_womenAt_1 := dk_seg dksX3_womenAt_0 24 rfl rfl
theorem dX3_womenAt_0 : decode cX3_womenAt 0 = .ok (.iconst 0, 1) := dk_3 (dk_at dksX3_womenAt_0 0 rfl rfl)
theorem dX3_womenAt_1 : decode cX3_womenAt 1 = .ok (.istore_n 2, 1) := dk_61 (dk_at dksX3_womenAt_0 1 rfl rfl)
theorem dX3_womenAt_2 : decode cX3_womenAt 2 = .ok (.iconst 0, 1) := dk_3 (dk_at dksX3_womenAt_0 2 rfl rfl)
theorem dX3_womenAt_3 : decode cX3_womenAt 3 = .ok (.istore_n 3, 1) := dk_62 (dk_at dksX3_womenAt_0 3 rfl rfl)
theorem dX3_womenAt_4 : decode cX3_womenAt 4 = .ok (.iload_n 3, 1) := dk_29 (dk_at dksX3_womenAt_0 4 rfl rfl)
theorem dX3_womenAt_5 : decode cX3_womenAt 5 = .ok (.aload_n 0, 1) := dk_42 (dk_at dksX3_womenAt_0 5 rfl rfl)
theorem dX3_womenAt_6 : decode cX3_womenAt 6 = .ok (.getfield 3, 3) := dk_180 0 3 (dk_at dksX3_womenAt_0 6 rfl rfl)
theorem dX3_womenAt_9 : decode cX3_womenAt 9 = .ok (.getfield 45, 3) := dk_180 0 45 (dk_at dksX3_womenAt_0 9 rfl rfl)
theorem dX3_womenAt_12 : decode cX3_womenAt 12 = .ok (.invokevirtual 49, 3) := dk_182 0 49 (dk_at dksX3_womenAt_0 12 rfl rfl)
theorem dX3_womenAt_15 : decode cX3_womenAt 15 = .ok (.if_icmp .ge 25, 3) := dk_162 0 25 (dk_at dksX3_womenAt_0 15 rfl rfl)
theorem dX3_womenAt_18 : decode cX3_womenAt 18 = .ok (.aload_n 0, 1) := dk_42 (dk_at dksX3_womenAt_0 18 rfl rfl)
theorem dX3_womenAt_19 : decode cX3_womenAt 19 = .ok (.getfield 25, 3) := dk_180 0 25 (dk_at dksX3_womenAt_0 19 rfl rfl)
theorem dX3_womenAt_22 : decode cX3_womenAt 22 = .ok (.iload_n 3, 1) := dk_29 (dk_at dksX3_womenAt_0 22 rfl rfl)
theorem dX3_womenAt_23 : decode cX3_womenAt 23 = .ok (.iaload, 1) := dk_46 (dk_at dksX3_womenAt_0 23 rfl rfl)
theorem dX3_womenAt_24 : decode cX3_womenAt 24 = .ok (.iload_n 1, 1) := dk_27 (dk_at dksX3_womenAt_1 0 rfl rfl)
theorem dX3_womenAt_25 : decode cX3_womenAt 25 = .ok (.if_icmp .ne 9, 3) := dk_160 0 9 (dk_at dksX3_womenAt_1 1 rfl rfl)
theorem dX3_womenAt_28 : decode cX3_womenAt 28 = .ok (.iload_n 2, 1) := dk_28 (dk_at dksX3_womenAt_1 4 rfl rfl)
theorem dX3_womenAt_29 : decode cX3_womenAt 29 = .ok (.iconst 1, 1) := dk_4 (dk_at dksX3_womenAt_1 5 rfl rfl)
theorem dX3_womenAt_30 : decode cX3_womenAt 30 = .ok (.iload_n 3, 1) := dk_29 (dk_at dksX3_womenAt_1 6 rfl rfl)
theorem dX3_womenAt_31 : decode cX3_womenAt 31 = .ok (.ishl, 1) := dk_120 (dk_at dksX3_womenAt_1 7 rfl rfl)
theorem dX3_womenAt_32 : decode cX3_womenAt 32 = .ok (.ior, 1) := dk_128 (dk_at dksX3_womenAt_1 8 rfl rfl)
theorem dX3_womenAt_33 : decode cX3_womenAt 33 = .ok (.istore_n 2, 1) := dk_61 (dk_at dksX3_womenAt_1 9 rfl rfl)
theorem dX3_womenAt_34 : decode cX3_womenAt 34 = .ok (.iinc 3 1, 3) := dk_132 3 1 (dk_at dksX3_womenAt_1 10 rfl rfl)
theorem dX3_womenAt_37 : decode cX3_womenAt 37 = .ok (.goto (-33), 3) := dk_167 255 223 (dk_at dksX3_womenAt_1 13 rfl rfl)
theorem dX3_womenAt_40 : decode cX3_womenAt 40 = .ok (.iload_n 2, 1) := dk_28 (dk_at dksX3_womenAt_1 16 rfl rfl)
theorem dX3_womenAt_41 : decode cX3_womenAt 41 = .ok (.ireturn, 1) := dk_172 (dk_at dksX3_womenAt_1 17 rfl rfl)
abbrev cX3_asked : ByteArray := prog_4_method_7_code
def yX3_asked : MethodName := ⟨RX3, "asked", "(LHorizonSeam$Form;I)I"⟩
def dkwX3_asked_4 : List UInt8 := [180, 0, 3, 180, 0, 62, 185, 0, 76, 2, 0, 172]
abbrev dktX3_asked_4 : List UInt8 := dkwX3_asked_4 ++ []
def dkwX3_asked_3 : List UInt8 := [182, 0, 68, 184, 0, 71, 79, 42, 180, 0, 3, 180, 0, 62, 8, 42, 180, 0, 41, 79, 43, 42]
abbrev dktX3_asked_3 : List UInt8 := dkwX3_asked_3 ++ dktX3_asked_4
def dkwX3_asked_2 : List UInt8 := [180, 0, 3, 180, 0, 62, 6, 42, 28, 182, 0, 65, 79, 42, 180, 0, 3, 180, 0, 62, 7, 42, 28]
abbrev dktX3_asked_2 : List UInt8 := dkwX3_asked_2 ++ dktX3_asked_3
def dkwX3_asked_1 : List UInt8 := [180, 0, 19, 28, 46, 79, 42, 180, 0, 3, 180, 0, 62, 5, 42, 180, 0, 22, 28, 46, 79, 42]
abbrev dktX3_asked_1 : List UInt8 := dkwX3_asked_1 ++ dktX3_asked_2
def dkwX3_asked_0 : List UInt8 := [42, 180, 0, 3, 180, 0, 62, 3, 42, 180, 0, 15, 28, 46, 79, 42, 180, 0, 3, 180, 0, 62, 4, 42]
abbrev dktX3_asked_0 : List UInt8 := dkwX3_asked_0 ++ dktX3_asked_1
theorem dksX3_asked_0 : cX3_asked.data.toList.drop 0 = dktX3_asked_0 := by decide +kernel
theorem dksX3_asked_1 : cX3_asked.data.toList.drop 24 = dktX3_asked_1 := dk_seg dksX3_asked_0 24 rfl rfl
theorem dksX3_asked_2 : cX3_asked.data.toList.drop 46 = dktX3_asked_2 := dk_seg dksX3_asked_1 22 rfl rfl
theorem dksX3_asked_3 : cX3_asked.data.toList.drop 69 = dktX3_asked_3 := dk_seg dksX3_asked_2 23 rfl rfl
theorem dksX3_asked_4 : cX3_asked.data.toList.drop 91 = dktX3_asked_4 := dk_seg dksX3_asked_3 22 rfl rfl
theorem dX3_asked_0 : decode cX3_asked 0 = .ok (.aload_n 0, 1) := dk_42 (dk_at dksX3_asked_0 0 rfl rfl)
theorem dX3_asked_1 : decode cX3_asked 1 = .ok (.getfield 3, 3) := dk_180 0 3 (dk_at dksX3_asked_0 1 rfl rfl)
theorem dX3_asked_4 : decode cX3_asked 4 = .ok (.getfield 62, 3) := dk_180 0 62 (dk_at dksX3_asked_0 4 rfl rfl)
theorem dX3_asked_7 : decode cX3_asked 7 = .ok (.iconst 0, 1) := dk_3 (dk_at dksX3_asked_0 7 rfl rfl)
theorem dX3_asked_8 : decode cX3_asked 8 = .ok (.aload_n 0, 1) := dk_42 (dk_at dksX3_asked_0 8 rfl rfl)
theorem dX3_asked_9 : decode cX3_asked 9 = .ok (.getfield 15, 3) := dk_180 0 15 (dk_at dksX3_asked_0 9 rfl rfl)
theorem dX3_asked_12 : decode cX3_asked 12 = .ok (.iload_n 2, 1) := dk_28 (dk_at dksX3_asked_0 12 rfl rfl)
theorem dX3_asked_13 : decode cX3_asked 13 = .ok (.iaload, 1) := dk_46 (dk_at dksX3_asked_0 13 rfl rfl)
theorem dX3_asked_14 : decode cX3_asked 14 = .ok (.iastore, 1) := dk_79 (dk_at dksX3_asked_0 14 rfl rfl)
theorem dX3_asked_15 : decode cX3_asked 15 = .ok (.aload_n 0, 1) := dk_42 (dk_at dksX3_asked_0 15 rfl rfl)
theorem dX3_asked_16 : decode cX3_asked 16 = .ok (.getfield 3, 3) := dk_180 0 3 (dk_at dksX3_asked_0 16 rfl rfl)
theorem dX3_asked_19 : decode cX3_asked 19 = .ok (.getfield 62, 3) := dk_180 0 62 (dk_at dksX3_asked_0 19 rfl rfl)
theorem dX3_asked_22 : decode cX3_asked 22 = .ok (.iconst 1, 1) := dk_4 (dk_at dksX3_asked_0 22 rfl rfl)
theorem dX3_asked_23 : decode cX3_asked 23 = .ok (.aload_n 0, 1) := dk_42 (dk_at dksX3_asked_0 23 rfl rfl)
theorem dX3_asked_24 : decode cX3_asked 24 = .ok (.getfield 19, 3) := dk_180 0 19 (dk_at dksX3_asked_1 0 rfl rfl)
theorem dX3_asked_27 : decode cX3_asked 27 = .ok (.iload_n 2, 1) := dk_28 (dk_at dksX3_asked_1 3 rfl rfl)
theorem dX3_asked_28 : decode cX3_asked 28 = .ok (.iaload, 1) := dk_46 (dk_at dksX3_asked_1 4 rfl rfl)
theorem dX3_asked_29 : decode cX3_asked 29 = .ok (.iastore, 1) := dk_79 (dk_at dksX3_asked_1 5 rfl rfl)
theorem dX3_asked_30 : decode cX3_asked 30 = .ok (.aload_n 0, 1) := dk_42 (dk_at dksX3_asked_1 6 rfl rfl)
theorem dX3_asked_31 : decode cX3_asked 31 = .ok (.getfield 3, 3) := dk_180 0 3 (dk_at dksX3_asked_1 7 rfl rfl)
theorem dX3_asked_34 : decode cX3_asked 34 = .ok (.getfield 62, 3) := dk_180 0 62 (dk_at dksX3_asked_1 10 rfl rfl)
theorem dX3_asked_37 : decode cX3_asked 37 = .ok (.iconst 2, 1) := dk_5 (dk_at dksX3_asked_1 13 rfl rfl)
theorem dX3_asked_38 : decode cX3_asked 38 = .ok (.aload_n 0, 1) := dk_42 (dk_at dksX3_asked_1 14 rfl rfl)
theorem dX3_asked_39 : decode cX3_asked 39 = .ok (.getfield 22, 3) := dk_180 0 22 (dk_at dksX3_asked_1 15 rfl rfl)
theorem dX3_asked_42 : decode cX3_asked 42 = .ok (.iload_n 2, 1) := dk_28 (dk_at dksX3_asked_1 18 rfl rfl)
theorem dX3_asked_43 : decode cX3_asked 43 = .ok (.iaload, 1) := dk_46 (dk_at dksX3_asked_1 19 rfl rfl)
theorem dX3_asked_44 : decode cX3_asked 44 = .ok (.iastore, 1) := dk_79 (dk_at dksX3_asked_1 20 rfl rfl)
theorem dX3_asked_45 : decode cX3_asked 45 = .ok (.aload_n 0, 1) := dk_42 (dk_at dksX3_asked_1 21 rfl rfl)
theorem dX3_asked_46 : decode cX3_asked 46 = .ok (.getfield 3, 3) := dk_180 0 3 (dk_at dksX3_asked_2 0 rfl rfl)
theorem dX3_asked_49 : decode cX3_asked 49 = .ok (.getfield 62, 3) := dk_180 0 62 (dk_at dksX3_asked_2 3 rfl rfl)
theorem dX3_asked_52 : decode cX3_asked 52 = .ok (.iconst 3, 1) := dk_6 (dk_at dksX3_asked_2 6 rfl rfl)
theorem dX3_asked_53 : decode cX3_asked 53 = .ok (.aload_n 0, 1) := dk_42 (dk_at dksX3_asked_2 7 rfl rfl)
theorem dX3_asked_54 : decode cX3_asked 54 = .ok (.iload_n 2, 1) := dk_28 (dk_at dksX3_asked_2 8 rfl rfl)
theorem dX3_asked_55 : decode cX3_asked 55 = .ok (.invokevirtual 65, 3) := dk_182 0 65 (dk_at dksX3_asked_2 9 rfl rfl)
theorem dX3_asked_58 : decode cX3_asked 58 = .ok (.iastore, 1) := dk_79 (dk_at dksX3_asked_2 12 rfl rfl)
theorem dX3_asked_59 : decode cX3_asked 59 = .ok (.aload_n 0, 1) := dk_42 (dk_at dksX3_asked_2 13 rfl rfl)
theorem dX3_asked_60 : decode cX3_asked 60 = .ok (.getfield 3, 3) := dk_180 0 3 (dk_at dksX3_asked_2 14 rfl rfl)
theorem dX3_asked_63 : decode cX3_asked 63 = .ok (.getfield 62, 3) := dk_180 0 62 (dk_at dksX3_asked_2 17 rfl rfl)
theorem dX3_asked_66 : decode cX3_asked 66 = .ok (.iconst 4, 1) := dk_7 (dk_at dksX3_asked_2 20 rfl rfl)
theorem dX3_asked_67 : decode cX3_asked 67 = .ok (.aload_n 0, 1) := dk_42 (dk_at dksX3_asked_2 21 rfl rfl)
theorem dX3_asked_68 : decode cX3_asked 68 = .ok (.iload_n 2, 1) := dk_28 (dk_at dksX3_asked_2 22 rfl rfl)
theorem dX3_asked_69 : decode cX3_asked 69 = .ok (.invokevirtual 68, 3) := dk_182 0 68 (dk_at dksX3_asked_3 0 rfl rfl)
theorem dX3_asked_72 : decode cX3_asked 72 = .ok (.invokestatic 71, 3) := dk_184 0 71 (dk_at dksX3_asked_3 3 rfl rfl)
theorem dX3_asked_75 : decode cX3_asked 75 = .ok (.iastore, 1) := dk_79 (dk_at dksX3_asked_3 6 rfl rfl)
theorem dX3_asked_76 : decode cX3_asked 76 = .ok (.aload_n 0, 1) := dk_42 (dk_at dksX3_asked_3 7 rfl rfl)
theorem dX3_asked_77 : decode cX3_asked 77 = .ok (.getfield 3, 3) := dk_180 0 3 (dk_at dksX3_asked_3 8 rfl rfl)
theorem dX3_asked_80 : decode cX3_asked 80 = .ok (.getfield 62, 3) := dk_180 0 62 (dk_at dksX3_asked_3 11 rfl rfl)
theorem dX3_asked_83 : decode cX3_asked 83 = .ok (.iconst 5, 1) := dk_8 (dk_at dksX3_asked_3 14 rfl rfl)
theorem dX3_asked_84 : decode cX3_asked 84 = .ok (.aload_n 0, 1) := dk_42 (dk_at dksX3_asked_3 15 rfl rfl)
theorem dX3_asked_85 : decode cX3_asked 85 = .ok (.getfield 41, 3) := dk_180 0 41 (dk_at dksX3_asked_3 16 rfl rfl)
theorem dX3_asked_88 : decode cX3_asked 88 = .ok (.iastore, 1) := dk_79 (dk_at dksX3_asked_3 19 rfl rfl)
theorem dX3_asked_89 : decode cX3_asked 89 = .ok (.aload_n 1, 1) := dk_43 (dk_at dksX3_asked_3 20 rfl rfl)
theorem dX3_asked_90 : decode cX3_asked 90 = .ok (.aload_n 0, 1) := dk_42 (dk_at dksX3_asked_3 21 rfl rfl)
theorem dX3_asked_91 : decode cX3_asked 91 = .ok (.getfield 3, 3) := dk_180 0 3 (dk_at dksX3_asked_4 0 rfl rfl)
theorem dX3_asked_94 : decode cX3_asked 94 = .ok (.getfield 62, 3) := dk_180 0 62 (dk_at dksX3_asked_4 3 rfl rfl)
theorem dX3_asked_97 : decode cX3_asked 97 = .ok (.invokeinterface 76 2, 5) := by decide +kernel
theorem dX3_asked_102 : decode cX3_asked 102 = .ok (.ireturn, 1) := dk_172 (dk_at dksX3_asked_4 11 rfl rfl)
abbrev cX3_frays : ByteArray := prog_4_method_9_code
def yX3_frays : MethodName := ⟨RX3, "frays", "(I)I"⟩
def dkwX3_frays_2 : List UInt8 := [180, 0, 3, 180, 0, 45, 180, 0, 98, 27, 182, 0, 90, 61, 28, 3, 16, 20, 184, 0, 94, 172]
abbrev dktX3_frays_2 : List UInt8 := dkwX3_frays_2 ++ []
def dkwX3_frays_1 : List UInt8 := [180, 0, 15, 27, 46, 16, 9, 108, 42, 180, 0, 22, 27, 46, 4, 96, 108, 167, 0, 18, 42, 42]
abbrev dktX3_frays_1 : List UInt8 := dkwX3_frays_1 ++ dktX3_frays_2
def dkwX3_frays_0 : List UInt8 := [42, 27, 182, 0, 82, 153, 0, 5, 3, 172, 42, 180, 0, 3, 180, 0, 45, 180, 0, 98, 199, 0, 24, 42]
abbrev dktX3_frays_0 : List UInt8 := dkwX3_frays_0 ++ dktX3_frays_1
theorem dksX3_frays_0 : cX3_frays.data.toList.drop 0 = dktX3_frays_0 := by decide +kernel
theorem dksX3_frays_1 : cX3_frays.data.toList.drop 24 = dktX3_frays_1 := dk_seg dksX3_frays_0 24 rfl rfl
theorem dksX3_frays_2 : cX3_frays.data.toList.drop 46 = dktX3_frays_2 := dk_seg dksX3_frays_1 22 rfl rfl
theorem dX3_frays_0 : decode cX3_frays 0 = .ok (.aload_n 0, 1) := dk_42 (dk_at dksX3_frays_0 0 rfl rfl)
theorem dX3_frays_1 : decode cX3_frays 1 = .ok (.iload_n 1, 1) := dk_27 (dk_at dksX3_frays_0 1 rfl rfl)
theorem dX3_frays_2 : decode cX3_frays 2 = .ok (.invokevirtual 82, 3) := dk_182 0 82 (dk_at dksX3_frays_0 2 rfl rfl)
theorem dX3_frays_5 : decode cX3_frays 5 = .ok (.ifCond .eq 5, 3) := dk_153 0 5 (dk_at dksX3_frays_0 5 rfl rfl)
theorem dX3_frays_8 : decode cX3_frays 8 = .ok (.iconst 0, 1) := dk_3 (dk_at dksX3_frays_0 8 rfl rfl)
theorem dX3_frays_9 : decode cX3_frays 9 = .ok (.ireturn, 1) := dk_172 (dk_at dksX3_frays_0 9 rfl rfl)
theorem dX3_frays_10 : decode cX3_frays 10 = .ok (.aload_n 0, 1) := dk_42 (dk_at dksX3_frays_0 10 rfl rfl)
theorem dX3_frays_11 : decode cX3_frays 11 = .ok (.getfield 3, 3) := dk_180 0 3 (dk_at dksX3_frays_0 11 rfl rfl)
theorem dX3_frays_14 : decode cX3_frays 14 = .ok (.getfield 45, 3) := dk_180 0 45 (dk_at dksX3_frays_0 14 rfl rfl)
theorem dX3_frays_17 : decode cX3_frays 17 = .ok (.getfield 98, 3) := dk_180 0 98 (dk_at dksX3_frays_0 17 rfl rfl)
theorem dX3_frays_20 : decode cX3_frays 20 = .ok (.ifnonnull 24, 3) := dk_199 0 24 (dk_at dksX3_frays_0 20 rfl rfl)
theorem dX3_frays_23 : decode cX3_frays 23 = .ok (.aload_n 0, 1) := dk_42 (dk_at dksX3_frays_0 23 rfl rfl)
theorem dX3_frays_24 : decode cX3_frays 24 = .ok (.getfield 15, 3) := dk_180 0 15 (dk_at dksX3_frays_1 0 rfl rfl)
theorem dX3_frays_27 : decode cX3_frays 27 = .ok (.iload_n 1, 1) := dk_27 (dk_at dksX3_frays_1 3 rfl rfl)
theorem dX3_frays_28 : decode cX3_frays 28 = .ok (.iaload, 1) := dk_46 (dk_at dksX3_frays_1 4 rfl rfl)
theorem dX3_frays_29 : decode cX3_frays 29 = .ok (.bipush 9, 2) := dk_16 9 (dk_at dksX3_frays_1 5 rfl rfl)
theorem dX3_frays_31 : decode cX3_frays 31 = .ok (.idiv, 1) := dk_108 (dk_at dksX3_frays_1 7 rfl rfl)
theorem dX3_frays_32 : decode cX3_frays 32 = .ok (.aload_n 0, 1) := dk_42 (dk_at dksX3_frays_1 8 rfl rfl)
theorem dX3_frays_33 : decode cX3_frays 33 = .ok (.getfield 22, 3) := dk_180 0 22 (dk_at dksX3_frays_1 9 rfl rfl)
theorem dX3_frays_36 : decode cX3_frays 36 = .ok (.iload_n 1, 1) := dk_27 (dk_at dksX3_frays_1 12 rfl rfl)
theorem dX3_frays_37 : decode cX3_frays 37 = .ok (.iaload, 1) := dk_46 (dk_at dksX3_frays_1 13 rfl rfl)
theorem dX3_frays_38 : decode cX3_frays 38 = .ok (.iconst 1, 1) := dk_4 (dk_at dksX3_frays_1 14 rfl rfl)
theorem dX3_frays_39 : decode cX3_frays 39 = .ok (.iadd, 1) := dk_96 (dk_at dksX3_frays_1 15 rfl rfl)
theorem dX3_frays_40 : decode cX3_frays 40 = .ok (.idiv, 1) := dk_108 (dk_at dksX3_frays_1 16 rfl rfl)
theorem dX3_frays_41 : decode cX3_frays 41 = .ok (.goto 18, 3) := dk_167 0 18 (dk_at dksX3_frays_1 17 rfl rfl)
theorem dX3_frays_44 : decode cX3_frays 44 = .ok (.aload_n 0, 1) := dk_42 (dk_at dksX3_frays_1 20 rfl rfl)
theorem dX3_frays_45 : decode cX3_frays 45 = .ok (.aload_n 0, 1) := dk_42 (dk_at dksX3_frays_1 21 rfl rfl)
theorem dX3_frays_46 : decode cX3_frays 46 = .ok (.getfield 3, 3) := dk_180 0 3 (dk_at dksX3_frays_2 0 rfl rfl)
theorem dX3_frays_49 : decode cX3_frays 49 = .ok (.getfield 45, 3) := dk_180 0 45 (dk_at dksX3_frays_2 3 rfl rfl)
theorem dX3_frays_52 : decode cX3_frays 52 = .ok (.getfield 98, 3) := dk_180 0 98 (dk_at dksX3_frays_2 6 rfl rfl)
theorem dX3_frays_55 : decode cX3_frays 55 = .ok (.iload_n 1, 1) := dk_27 (dk_at dksX3_frays_2 9 rfl rfl)
theorem dX3_frays_56 : decode cX3_frays 56 = .ok (.invokevirtual 90, 3) := dk_182 0 90 (dk_at dksX3_frays_2 10 rfl rfl)
theorem dX3_frays_59 : decode cX3_frays 59 = .ok (.istore_n 2, 1) := dk_61 (dk_at dksX3_frays_2 13 rfl rfl)
theorem dX3_frays_60 : decode cX3_frays 60 = .ok (.iload_n 2, 1) := dk_28 (dk_at dksX3_frays_2 14 rfl rfl)
theorem dX3_frays_61 : decode cX3_frays 61 = .ok (.iconst 0, 1) := dk_3 (dk_at dksX3_frays_2 15 rfl rfl)
theorem dX3_frays_62 : decode cX3_frays 62 = .ok (.bipush 20, 2) := dk_16 20 (dk_at dksX3_frays_2 16 rfl rfl)
theorem dX3_frays_64 : decode cX3_frays 64 = .ok (.invokestatic 94, 3) := dk_184 0 94 (dk_at dksX3_frays_2 18 rfl rfl)
theorem dX3_frays_67 : decode cX3_frays 67 = .ok (.ireturn, 1) := dk_172 (dk_at dksX3_frays_2 21 rfl rfl)
abbrev cX3_goOn : ByteArray := prog_4_method_13_code
def yX3_goOn : MethodName := ⟨RX3, "goOn", "(I)V"⟩
def dkwX3_goOn_0 : List UInt8 := [42, 180, 0, 25, 27, 42, 180, 0, 3, 180, 0, 45, 42, 180, 0, 25, 27, 46, 182, 0, 59, 79, 177]
abbrev dktX3_goOn_0 : List UInt8 := dkwX3_goOn_0 ++ []
theorem dksX3_goOn_0 : cX3_goOn.data.toList.drop 0 = dktX3_goOn_0 := by decide +kernel
theorem dX3_goOn_0 : decode cX3_goOn 0 = .ok (.aload_n 0, 1) := dk_42 (dk_at dksX3_goOn_0 0 rfl rfl)
theorem dX3_goOn_1 : decode cX3_goOn 1 = .ok (.getfield 25, 3) := dk_180 0 25 (dk_at dksX3_goOn_0 1 rfl rfl)
theorem dX3_goOn_4 : decode cX3_goOn 4 = .ok (.iload_n 1, 1) := dk_27 (dk_at dksX3_goOn_0 4 rfl rfl)
theorem dX3_goOn_5 : decode cX3_goOn 5 = .ok (.aload_n 0, 1) := dk_42 (dk_at dksX3_goOn_0 5 rfl rfl)
theorem dX3_goOn_6 : decode cX3_goOn 6 = .ok (.getfield 3, 3) := dk_180 0 3 (dk_at dksX3_goOn_0 6 rfl rfl)
theorem dX3_goOn_9 : decode cX3_goOn 9 = .ok (.getfield 45, 3) := dk_180 0 45 (dk_at dksX3_goOn_0 9 rfl rfl)
theorem dX3_goOn_12 : decode cX3_goOn 12 = .ok (.aload_n 0, 1) := dk_42 (dk_at dksX3_goOn_0 12 rfl rfl)
theorem dX3_goOn_13 : decode cX3_goOn 13 = .ok (.getfield 25, 3) := dk_180 0 25 (dk_at dksX3_goOn_0 13 rfl rfl)
theorem dX3_goOn_16 : decode cX3_goOn 16 = .ok (.iload_n 1, 1) := dk_27 (dk_at dksX3_goOn_0 16 rfl rfl)
theorem dX3_goOn_17 : decode cX3_goOn 17 = .ok (.iaload, 1) := dk_46 (dk_at dksX3_goOn_0 17 rfl rfl)
theorem dX3_goOn_18 : decode cX3_goOn 18 = .ok (.invokevirtual 59, 3) := dk_182 0 59 (dk_at dksX3_goOn_0 18 rfl rfl)
theorem dX3_goOn_21 : decode cX3_goOn 21 = .ok (.iastore, 1) := dk_79 (dk_at dksX3_goOn_0 21 rfl rfl)
theorem dX3_goOn_22 : decode cX3_goOn 22 = .ok (.return_, 1) := dk_177 (dk_at dksX3_goOn_0 22 rfl rfl)
abbrev cX3_pull : ByteArray := prog_4_method_10_code
def yX3_pull : MethodName := ⟨RX3, "pull", "(II)V"⟩
def dkwX3_pull_0 : List UInt8 := [42, 180, 0, 15, 27, 42, 180, 0, 15, 27, 46, 28, 96, 3, 16, 99, 184, 0, 94, 79, 177]
abbrev dktX3_pull_0 : List UInt8 := dkwX3_pull_0 ++ []
theorem dksX3_pull_0 : cX3_pull.data.toList.drop 0 = dktX3_pull_0 := by decide +kernel
theorem dX3_pull_0 : decode cX3_pull 0 = .ok (.aload_n 0, 1) := dk_42 (dk_at dksX3_pull_0 0 rfl rfl)
theorem dX3_pull_1 : decode cX3_pull 1 = .ok (.getfield 15, 3) := dk_180 0 15 (dk_at dksX3_pull_0 1 rfl rfl)
theorem dX3_pull_4 : decode cX3_pull 4 = .ok (.iload_n 1, 1) := dk_27 (dk_at dksX3_pull_0 4 rfl rfl)
theorem dX3_pull_5 : decode cX3_pull 5 = .ok (.aload_n 0, 1) := dk_42 (dk_at dksX3_pull_0 5 rfl rfl)
theorem dX3_pull_6 : decode cX3_pull 6 = .ok (.getfield 15, 3) := dk_180 0 15 (dk_at dksX3_pull_0 6 rfl rfl)
theorem dX3_pull_9 : decode cX3_pull 9 = .ok (.iload_n 1, 1) := dk_27 (dk_at dksX3_pull_0 9 rfl rfl)
theorem dX3_pull_10 : decode cX3_pull 10 = .ok (.iaload, 1) := dk_46 (dk_at dksX3_pull_0 10 rfl rfl)
theorem dX3_pull_11 : decode cX3_pull 11 = .ok (.iload_n 2, 1) := dk_28 (dk_at dksX3_pull_0 11 rfl rfl)
theorem dX3_pull_12 : decode cX3_pull 12 = .ok (.iadd, 1) := dk_96 (dk_at dksX3_pull_0 12 rfl rfl)
theorem dX3_pull_13 : decode cX3_pull 13 = .ok (.iconst 0, 1) := dk_3 (dk_at dksX3_pull_0 13 rfl rfl)
theorem dX3_pull_14 : decode cX3_pull 14 = .ok (.bipush 99, 2) := dk_16 99 (dk_at dksX3_pull_0 14 rfl rfl)
theorem dX3_pull_16 : decode cX3_pull 16 = .ok (.invokestatic 94, 3) := dk_184 0 94 (dk_at dksX3_pull_0 16 rfl rfl)
theorem dX3_pull_19 : decode cX3_pull 19 = .ok (.iastore, 1) := dk_79 (dk_at dksX3_pull_0 19 rfl rfl)
theorem dX3_pull_20 : decode cX3_pull 20 = .ok (.return_, 1) := dk_177 (dk_at dksX3_pull_0 20 rfl rfl)
abbrev cX3_loosen : ByteArray := prog_4_method_11_code
def yX3_loosen : MethodName := ⟨RX3, "loosen", "(II)V"⟩
def dkwX3_loosen_4 : List UInt8 := [154, 0, 19, 42, 42, 180, 0, 3, 180, 0, 45, 27, 182, 0, 59, 29, 182, 0, 107, 177]
abbrev dktX3_loosen_4 : List UInt8 := dkwX3_loosen_4 ++ []
def dkwX3_loosen_3 : List UInt8 := [27, 182, 0, 55, 29, 182, 0, 107, 42, 42, 180, 0, 3, 180, 0, 45, 27, 182, 0, 59, 182, 0, 82]
abbrev dktX3_loosen_3 : List UInt8 := dkwX3_loosen_3 ++ dktX3_loosen_4
def dkwX3_loosen_2 : List UInt8 := [180, 0, 3, 180, 0, 45, 27, 182, 0, 55, 182, 0, 82, 154, 0, 19, 42, 42, 180, 0, 3, 180, 0, 45]
abbrev dktX3_loosen_2 : List UInt8 := dkwX3_loosen_2 ++ dktX3_loosen_3
def dkwX3_loosen_1 : List UInt8 := [154, 0, 4, 177, 42, 180, 0, 15, 27, 46, 5, 108, 62, 42, 180, 0, 15, 27, 3, 79, 42, 42]
abbrev dktX3_loosen_1 : List UInt8 := dkwX3_loosen_1 ++ dktX3_loosen_2
def dkwX3_loosen_0 : List UInt8 := [42, 180, 0, 19, 27, 3, 42, 180, 0, 19, 27, 46, 28, 100, 184, 0, 101, 79, 42, 27, 182, 0, 82]
abbrev dktX3_loosen_0 : List UInt8 := dkwX3_loosen_0 ++ dktX3_loosen_1
theorem dksX3_loosen_0 : cX3_loosen.data.toList.drop 0 = dktX3_loosen_0 := by decide +kernel
theorem dksX3_loosen_1 : cX3_loosen.data.toList.drop 23 = dktX3_loosen_1 := dk_seg dksX3_loosen_0 23 rfl rfl
theorem dksX3_loosen_2 : cX3_loosen.data.toList.drop 45 = dktX3_loosen_2 := dk_seg dksX3_loosen_1 22 rfl rfl
theorem dksX3_loosen_3 : cX3_loosen.data.toList.drop 69 = dktX3_loosen_3 := dk_seg dksX3_loosen_2 24 rfl rfl
theorem dksX3_loosen_4 : cX3_loosen.data.toList.drop 92 = dktX3_loosen_4 := dk_seg dksX3_loosen_3 23 rfl rfl
theorem dX3_loosen_0 : decode cX3_loosen 0 = .ok (.aload_n 0, 1) := dk_42 (dk_at dksX3_loosen_0 0 rfl rfl)
theorem dX3_loosen_1 : decode cX3_loosen 1 = .ok (.getfield 19, 3) := dk_180 0 19 (dk_at dksX3_loosen_0 1 rfl rfl)
theorem dX3_loosen_4 : decode cX3_loosen 4 = .ok (.iload_n 1, 1) := dk_27 (dk_at dksX3_loosen_0 4 rfl rfl)
theorem dX3_loosen_5 : decode cX3_loosen 5 = .ok (.iconst 0, 1) := dk_3 (dk_at dksX3_loosen_0 5 rfl rfl)
theorem dX3_loosen_6 : decode cX3_loosen 6 = .ok (.aload_n 0, 1) := dk_42 (dk_at dksX3_loosen_0 6 rfl rfl)
theorem dX3_loosen_7 : decode cX3_loosen 7 = .ok (.getfield 19, 3) := dk_180 0 19 (dk_at dksX3_loosen_0 7 rfl rfl)
theorem dX3_loosen_10 : decode cX3_loosen 10 = .ok (.iload_n 1, 1) := dk_27 (dk_at dksX3_loosen_0 10 rfl rfl)
theorem dX3_loosen_11 : decode cX3_loosen 11 = .ok (.iaload, 1) := dk_46 (dk_at dksX3_loosen_0 11 rfl rfl)
theorem dX3_loosen_12 : decode cX3_loosen 12 = .ok (.iload_n 2, 1) := dk_28 (dk_at dksX3_loosen_0 12 rfl rfl)
theorem dX3_loosen_13 : decode cX3_loosen 13 = .ok (.isub, 1) := dk_100 (dk_at dksX3_loosen_0 13 rfl rfl)
theorem dX3_loosen_14 : decode cX3_loosen 14 = .ok (.invokestatic 101, 3) := dk_184 0 101 (dk_at dksX3_loosen_0 14 rfl rfl)
theorem dX3_loosen_17 : decode cX3_loosen 17 = .ok (.iastore, 1) := dk_79 (dk_at dksX3_loosen_0 17 rfl rfl)
theorem dX3_loosen_18 : decode cX3_loosen 18 = .ok (.aload_n 0, 1) := dk_42 (dk_at dksX3_loosen_0 18 rfl rfl)
theorem dX3_loosen_19 : decode cX3_loosen 19 = .ok (.iload_n 1, 1) := dk_27 (dk_at dksX3_loosen_0 19 rfl rfl)
theorem dX3_loosen_20 : decode cX3_loosen 20 = .ok (.invokevirtual 82, 3) := dk_182 0 82 (dk_at dksX3_loosen_0 20 rfl rfl)
theorem dX3_loosen_23 : decode cX3_loosen 23 = .ok (.ifCond .ne 4, 3) := dk_154 0 4 (dk_at dksX3_loosen_1 0 rfl rfl)
theorem dX3_loosen_26 : decode cX3_loosen 26 = .ok (.return_, 1) := dk_177 (dk_at dksX3_loosen_1 3 rfl rfl)
theorem dX3_loosen_27 : decode cX3_loosen 27 = .ok (.aload_n 0, 1) := dk_42 (dk_at dksX3_loosen_1 4 rfl rfl)
theorem dX3_loosen_28 : decode cX3_loosen 28 = .ok (.getfield 15, 3) := dk_180 0 15 (dk_at dksX3_loosen_1 5 rfl rfl)
theorem dX3_loosen_31 : decode cX3_loosen 31 = .ok (.iload_n 1, 1) := dk_27 (dk_at dksX3_loosen_1 8 rfl rfl)
theorem dX3_loosen_32 : decode cX3_loosen 32 = .ok (.iaload, 1) := dk_46 (dk_at dksX3_loosen_1 9 rfl rfl)
theorem dX3_loosen_33 : decode cX3_loosen 33 = .ok (.iconst 2, 1) := dk_5 (dk_at dksX3_loosen_1 10 rfl rfl)
theorem dX3_loosen_34 : decode cX3_loosen 34 = .ok (.idiv, 1) := dk_108 (dk_at dksX3_loosen_1 11 rfl rfl)
theorem dX3_loosen_35 : decode cX3_loosen 35 = .ok (.istore_n 3, 1) := dk_62 (dk_at dksX3_loosen_1 12 rfl rfl)
theorem dX3_loosen_36 : decode cX3_loosen 36 = .ok (.aload_n 0, 1) := dk_42 (dk_at dksX3_loosen_1 13 rfl rfl)
theorem dX3_loosen_37 : decode cX3_loosen 37 = .ok (.getfield 15, 3) := dk_180 0 15 (dk_at dksX3_loosen_1 14 rfl rfl)
theorem dX3_loosen_40 : decode cX3_loosen 40 = .ok (.iload_n 1, 1) := dk_27 (dk_at dksX3_loosen_1 17 rfl rfl)
theorem dX3_loosen_41 : decode cX3_loosen 41 = .ok (.iconst 0, 1) := dk_3 (dk_at dksX3_loosen_1 18 rfl rfl)
theorem dX3_loosen_42 : decode cX3_loosen 42 = .ok (.iastore, 1) := dk_79 (dk_at dksX3_loosen_1 19 rfl rfl)
theorem dX3_loosen_43 : decode cX3_loosen 43 = .ok (.aload_n 0, 1) := dk_42 (dk_at dksX3_loosen_1 20 rfl rfl)
theorem dX3_loosen_44 : decode cX3_loosen 44 = .ok (.aload_n 0, 1) := dk_42 (dk_at dksX3_loosen_1 21 rfl rfl)
theorem dX3_loosen_45 : decode cX3_loosen 45 = .ok (.getfield 3, 3) := dk_180 0 3 (dk_at dksX3_loosen_2 0 rfl rfl)
theorem dX3_loosen_48 : decode cX3_loosen 48 = .ok (.getfield 45, 3) := dk_180 0 45 (dk_at dksX3_loosen_2 3 rfl rfl)
theorem dX3_loosen_51 : decode cX3_loosen 51 = .ok (.iload_n 1, 1) := dk_27 (dk_at dksX3_loosen_2 6 rfl rfl)
theorem dX3_loosen_52 : decode cX3_loosen 52 = .ok (.invokevirtual 55, 3) := dk_182 0 55 (dk_at dksX3_loosen_2 7 rfl rfl)
theorem dX3_loosen_55 : decode cX3_loosen 55 = .ok (.invokevirtual 82, 3) := dk_182 0 82 (dk_at dksX3_loosen_2 10 rfl rfl)
theorem dX3_loosen_58 : decode cX3_loosen 58 = .ok (.ifCond .ne 19, 3) := dk_154 0 19 (dk_at dksX3_loosen_2 13 rfl rfl)
theorem dX3_loosen_61 : decode cX3_loosen 61 = .ok (.aload_n 0, 1) := dk_42 (dk_at dksX3_loosen_2 16 rfl rfl)
theorem dX3_loosen_62 : decode cX3_loosen 62 = .ok (.aload_n 0, 1) := dk_42 (dk_at dksX3_loosen_2 17 rfl rfl)
theorem dX3_loosen_63 : decode cX3_loosen 63 = .ok (.getfield 3, 3) := dk_180 0 3 (dk_at dksX3_loosen_2 18 rfl rfl)
theorem dX3_loosen_66 : decode cX3_loosen 66 = .ok (.getfield 45, 3) := dk_180 0 45 (dk_at dksX3_loosen_2 21 rfl rfl)
theorem dX3_loosen_69 : decode cX3_loosen 69 = .ok (.iload_n 1, 1) := dk_27 (dk_at dksX3_loosen_3 0 rfl rfl)
theorem dX3_loosen_70 : decode cX3_loosen 70 = .ok (.invokevirtual 55, 3) := dk_182 0 55 (dk_at dksX3_loosen_3 1 rfl rfl)
theorem dX3_loosen_73 : decode cX3_loosen 73 = .ok (.iload_n 3, 1) := dk_29 (dk_at dksX3_loosen_3 4 rfl rfl)
theorem dX3_loosen_74 : decode cX3_loosen 74 = .ok (.invokevirtual 107, 3) := dk_182 0 107 (dk_at dksX3_loosen_3 5 rfl rfl)
theorem dX3_loosen_77 : decode cX3_loosen 77 = .ok (.aload_n 0, 1) := dk_42 (dk_at dksX3_loosen_3 8 rfl rfl)
theorem dX3_loosen_78 : decode cX3_loosen 78 = .ok (.aload_n 0, 1) := dk_42 (dk_at dksX3_loosen_3 9 rfl rfl)
theorem dX3_loosen_79 : decode cX3_loosen 79 = .ok (.getfield 3, 3) := dk_180 0 3 (dk_at dksX3_loosen_3 10 rfl rfl)
theorem dX3_loosen_82 : decode cX3_loosen 82 = .ok (.getfield 45, 3) := dk_180 0 45 (dk_at dksX3_loosen_3 13 rfl rfl)
theorem dX3_loosen_85 : decode cX3_loosen 85 = .ok (.iload_n 1, 1) := dk_27 (dk_at dksX3_loosen_3 16 rfl rfl)
theorem dX3_loosen_86 : decode cX3_loosen 86 = .ok (.invokevirtual 59, 3) := dk_182 0 59 (dk_at dksX3_loosen_3 17 rfl rfl)
theorem dX3_loosen_89 : decode cX3_loosen 89 = .ok (.invokevirtual 82, 3) := dk_182 0 82 (dk_at dksX3_loosen_3 20 rfl rfl)
theorem dX3_loosen_92 : decode cX3_loosen 92 = .ok (.ifCond .ne 19, 3) := dk_154 0 19 (dk_at dksX3_loosen_4 0 rfl rfl)
theorem dX3_loosen_95 : decode cX3_loosen 95 = .ok (.aload_n 0, 1) := dk_42 (dk_at dksX3_loosen_4 3 rfl rfl)
theorem dX3_loosen_96 : decode cX3_loosen 96 = .ok (.aload_n 0, 1) := dk_42 (dk_at dksX3_loosen_4 4 rfl rfl)
theorem dX3_loosen_97 : decode cX3_loosen 97 = .ok (.getfield 3, 3) := dk_180 0 3 (dk_at dksX3_loosen_4 5 rfl rfl)
theorem dX3_loosen_100 : decode cX3_loosen 100 = .ok (.getfield 45, 3) := dk_180 0 45 (dk_at dksX3_loosen_4 8 rfl rfl)
theorem dX3_loosen_103 : decode cX3_loosen 103 = .ok (.iload_n 1, 1) := dk_27 (dk_at dksX3_loosen_4 11 rfl rfl)
theorem dX3_loosen_104 : decode cX3_loosen 104 = .ok (.invokevirtual 59, 3) := dk_182 0 59 (dk_at dksX3_loosen_4 12 rfl rfl)
theorem dX3_loosen_107 : decode cX3_loosen 107 = .ok (.iload_n 3, 1) := dk_29 (dk_at dksX3_loosen_4 15 rfl rfl)
theorem dX3_loosen_108 : decode cX3_loosen 108 = .ok (.invokevirtual 107, 3) := dk_182 0 107 (dk_at dksX3_loosen_4 16 rfl rfl)
theorem dX3_loosen_111 : decode cX3_loosen 111 = .ok (.return_, 1) := dk_177 (dk_at dksX3_loosen_4 19 rfl rfl)
abbrev cX3_mend : ByteArray := prog_4_method_12_code
def yX3_mend : MethodName := ⟨RX3, "mend", "(I)V"⟩
def dkwX3_mend_3 : List UInt8 := [184, 0, 124, 79, 177]
abbrev dktX3_mend_3 : List UInt8 := dkwX3_mend_3 ++ []
def dkwX3_mend_2 : List UInt8 := [180, 0, 45, 180, 0, 111, 27, 185, 0, 115, 2, 0, 192, 0, 72, 182, 0, 121, 104, 96, 6, 96]
abbrev dktX3_mend_2 : List UInt8 := dkwX3_mend_2 ++ dktX3_mend_3
def dkwX3_mend_1 : List UInt8 := [42, 180, 0, 25, 27, 46, 16, 99, 42, 180, 0, 19, 42, 180, 0, 25, 27, 46, 46, 5, 42, 180, 0, 3]
abbrev dktX3_mend_1 : List UInt8 := dkwX3_mend_1 ++ dktX3_mend_2
def dkwX3_mend_0 : List UInt8 := [42, 180, 0, 28, 27, 46, 154, 0, 4, 177, 42, 180, 0, 28, 27, 92, 46, 4, 100, 79, 42, 180, 0, 19]
abbrev dktX3_mend_0 : List UInt8 := dkwX3_mend_0 ++ dktX3_mend_1
theorem dksX3_mend_0 : cX3_mend.data.toList.drop 0 = dktX3_mend_0 := by decide +kernel
theorem dksX3_mend_1 : cX3_mend.data.toList.drop 24 = dktX3_mend_1 := dk_seg dksX3_mend_0 24 rfl rfl
theorem dksX3_mend_2 : cX3_mend.data.toList.drop 48 = dktX3_mend_2 := dk_seg dksX3_mend_1 24 rfl rfl
theorem dksX3_mend_3 : cX3_mend.data.toList.drop 70 = dktX3_mend_3 := dk_seg dksX3_mend_2 22 rfl rfl
theorem dX3_mend_0 : decode cX3_mend 0 = .ok (.aload_n 0, 1) := dk_42 (dk_at dksX3_mend_0 0 rfl rfl)
theorem dX3_mend_1 : decode cX3_mend 1 = .ok (.getfield 28, 3) := dk_180 0 28 (dk_at dksX3_mend_0 1 rfl rfl)
theorem dX3_mend_4 : decode cX3_mend 4 = .ok (.iload_n 1, 1) := dk_27 (dk_at dksX3_mend_0 4 rfl rfl)
theorem dX3_mend_5 : decode cX3_mend 5 = .ok (.iaload, 1) := dk_46 (dk_at dksX3_mend_0 5 rfl rfl)
theorem dX3_mend_6 : decode cX3_mend 6 = .ok (.ifCond .ne 4, 3) := dk_154 0 4 (dk_at dksX3_mend_0 6 rfl rfl)
theorem dX3_mend_9 : decode cX3_mend 9 = .ok (.return_, 1) := dk_177 (dk_at dksX3_mend_0 9 rfl rfl)
theorem dX3_mend_10 : decode cX3_mend 10 = .ok (.aload_n 0, 1) := dk_42 (dk_at dksX3_mend_0 10 rfl rfl)
theorem dX3_mend_11 : decode cX3_mend 11 = .ok (.getfield 28, 3) := dk_180 0 28 (dk_at dksX3_mend_0 11 rfl rfl)
theorem dX3_mend_14 : decode cX3_mend 14 = .ok (.iload_n 1, 1) := dk_27 (dk_at dksX3_mend_0 14 rfl rfl)
theorem dX3_mend_15 : decode cX3_mend 15 = .ok (.dup2, 1) := dk_92 (dk_at dksX3_mend_0 15 rfl rfl)
theorem dX3_mend_16 : decode cX3_mend 16 = .ok (.iaload, 1) := dk_46 (dk_at dksX3_mend_0 16 rfl rfl)
theorem dX3_mend_17 : decode cX3_mend 17 = .ok (.iconst 1, 1) := dk_4 (dk_at dksX3_mend_0 17 rfl rfl)
theorem dX3_mend_18 : decode cX3_mend 18 = .ok (.isub, 1) := dk_100 (dk_at dksX3_mend_0 18 rfl rfl)
theorem dX3_mend_19 : decode cX3_mend 19 = .ok (.iastore, 1) := dk_79 (dk_at dksX3_mend_0 19 rfl rfl)
theorem dX3_mend_20 : decode cX3_mend 20 = .ok (.aload_n 0, 1) := dk_42 (dk_at dksX3_mend_0 20 rfl rfl)
theorem dX3_mend_21 : decode cX3_mend 21 = .ok (.getfield 19, 3) := dk_180 0 19 (dk_at dksX3_mend_0 21 rfl rfl)
theorem dX3_mend_24 : decode cX3_mend 24 = .ok (.aload_n 0, 1) := dk_42 (dk_at dksX3_mend_1 0 rfl rfl)
theorem dX3_mend_25 : decode cX3_mend 25 = .ok (.getfield 25, 3) := dk_180 0 25 (dk_at dksX3_mend_1 1 rfl rfl)
theorem dX3_mend_28 : decode cX3_mend 28 = .ok (.iload_n 1, 1) := dk_27 (dk_at dksX3_mend_1 4 rfl rfl)
theorem dX3_mend_29 : decode cX3_mend 29 = .ok (.iaload, 1) := dk_46 (dk_at dksX3_mend_1 5 rfl rfl)
theorem dX3_mend_30 : decode cX3_mend 30 = .ok (.bipush 99, 2) := dk_16 99 (dk_at dksX3_mend_1 6 rfl rfl)
theorem dX3_mend_32 : decode cX3_mend 32 = .ok (.aload_n 0, 1) := dk_42 (dk_at dksX3_mend_1 8 rfl rfl)
theorem dX3_mend_33 : decode cX3_mend 33 = .ok (.getfield 19, 3) := dk_180 0 19 (dk_at dksX3_mend_1 9 rfl rfl)
theorem dX3_mend_36 : decode cX3_mend 36 = .ok (.aload_n 0, 1) := dk_42 (dk_at dksX3_mend_1 12 rfl rfl)
theorem dX3_mend_37 : decode cX3_mend 37 = .ok (.getfield 25, 3) := dk_180 0 25 (dk_at dksX3_mend_1 13 rfl rfl)
theorem dX3_mend_40 : decode cX3_mend 40 = .ok (.iload_n 1, 1) := dk_27 (dk_at dksX3_mend_1 16 rfl rfl)
theorem dX3_mend_41 : decode cX3_mend 41 = .ok (.iaload, 1) := dk_46 (dk_at dksX3_mend_1 17 rfl rfl)
theorem dX3_mend_42 : decode cX3_mend 42 = .ok (.iaload, 1) := dk_46 (dk_at dksX3_mend_1 18 rfl rfl)
theorem dX3_mend_43 : decode cX3_mend 43 = .ok (.iconst 2, 1) := dk_5 (dk_at dksX3_mend_1 19 rfl rfl)
theorem dX3_mend_44 : decode cX3_mend 44 = .ok (.aload_n 0, 1) := dk_42 (dk_at dksX3_mend_1 20 rfl rfl)
theorem dX3_mend_45 : decode cX3_mend 45 = .ok (.getfield 3, 3) := dk_180 0 3 (dk_at dksX3_mend_1 21 rfl rfl)
theorem dX3_mend_48 : decode cX3_mend 48 = .ok (.getfield 45, 3) := dk_180 0 45 (dk_at dksX3_mend_2 0 rfl rfl)
theorem dX3_mend_51 : decode cX3_mend 51 = .ok (.getfield 111, 3) := dk_180 0 111 (dk_at dksX3_mend_2 3 rfl rfl)
theorem dX3_mend_54 : decode cX3_mend 54 = .ok (.iload_n 1, 1) := dk_27 (dk_at dksX3_mend_2 6 rfl rfl)
theorem dX3_mend_55 : decode cX3_mend 55 = .ok (.invokeinterface 115 2, 5) := by decide +kernel
theorem dX3_mend_60 : decode cX3_mend 60 = .ok (.checkcast 72, 3) := dk_192 0 72 (dk_at dksX3_mend_2 12 rfl rfl)
theorem dX3_mend_63 : decode cX3_mend 63 = .ok (.invokevirtual 121, 3) := dk_182 0 121 (dk_at dksX3_mend_2 15 rfl rfl)
theorem dX3_mend_66 : decode cX3_mend 66 = .ok (.imul, 1) := dk_104 (dk_at dksX3_mend_2 18 rfl rfl)
theorem dX3_mend_67 : decode cX3_mend 67 = .ok (.iadd, 1) := dk_96 (dk_at dksX3_mend_2 19 rfl rfl)
theorem dX3_mend_68 : decode cX3_mend 68 = .ok (.iconst 3, 1) := dk_6 (dk_at dksX3_mend_2 20 rfl rfl)
theorem dX3_mend_69 : decode cX3_mend 69 = .ok (.iadd, 1) := dk_96 (dk_at dksX3_mend_2 21 rfl rfl)
theorem dX3_mend_70 : decode cX3_mend 70 = .ok (.invokestatic 124, 3) := dk_184 0 124 (dk_at dksX3_mend_3 0 rfl rfl)
theorem dX3_mend_73 : decode cX3_mend 73 = .ok (.iastore, 1) := dk_79 (dk_at dksX3_mend_3 3 rfl rfl)
theorem dX3_mend_74 : decode cX3_mend 74 = .ok (.return_, 1) := dk_177 (dk_at dksX3_mend_3 4 rfl rfl)
abbrev cX3_pulls : ByteArray := prog_4_method_8_code
def yX3_pulls : MethodName := ⟨RX3, "pulls", "(I)I"⟩
def dkwX3_pulls_2 : List UInt8 := [180, 0, 45, 180, 0, 86, 27, 182, 0, 90, 61, 28, 16, 247, 16, 9, 184, 0, 94, 172]
abbrev dktX3_pulls_2 : List UInt8 := dkwX3_pulls_2 ++ []
def dkwX3_pulls_1 : List UInt8 := [27, 182, 0, 65, 5, 42, 180, 0, 15, 27, 46, 104, 100, 16, 9, 108, 167, 0, 18, 42, 42, 180, 0, 3]
abbrev dktX3_pulls_1 : List UInt8 := dkwX3_pulls_1 ++ dktX3_pulls_2
def dkwX3_pulls_0 : List UInt8 := [42, 27, 182, 0, 82, 153, 0, 5, 3, 172, 42, 180, 0, 3, 180, 0, 45, 180, 0, 86, 199, 0, 23, 42]
abbrev dktX3_pulls_0 : List UInt8 := dkwX3_pulls_0 ++ dktX3_pulls_1
theorem dksX3_pulls_0 : cX3_pulls.data.toList.drop 0 = dktX3_pulls_0 := by decide +kernel
theorem dksX3_pulls_1 : cX3_pulls.data.toList.drop 24 = dktX3_pulls_1 := dk_seg dksX3_pulls_0 24 rfl rfl
theorem dksX3_pulls_2 : cX3_pulls.data.toList.drop 48 = dktX3_pulls_2 := dk_seg dksX3_pulls_1 24 rfl rfl
theorem dX3_pulls_0 : decode cX3_pulls 0 = .ok (.aload_n 0, 1) := dk_42 (dk_at dksX3_pulls_0 0 rfl rfl)
theorem dX3_pulls_1 : decode cX3_pulls 1 = .ok (.iload_n 1, 1) := dk_27 (dk_at dksX3_pulls_0 1 rfl rfl)
theorem dX3_pulls_2 : decode cX3_pulls 2 = .ok (.invokevirtual 82, 3) := dk_182 0 82 (dk_at dksX3_pulls_0 2 rfl rfl)
theorem dX3_pulls_5 : decode cX3_pulls 5 = .ok (.ifCond .eq 5, 3) := dk_153 0 5 (dk_at dksX3_pulls_0 5 rfl rfl)
theorem dX3_pulls_8 : decode cX3_pulls 8 = .ok (.iconst 0, 1) := dk_3 (dk_at dksX3_pulls_0 8 rfl rfl)
theorem dX3_pulls_9 : decode cX3_pulls 9 = .ok (.ireturn, 1) := dk_172 (dk_at dksX3_pulls_0 9 rfl rfl)
theorem dX3_pulls_10 : decode cX3_pulls 10 = .ok (.aload_n 0, 1) := dk_42 (dk_at dksX3_pulls_0 10 rfl rfl)
theorem dX3_pulls_11 : decode cX3_pulls 11 = .ok (.getfield 3, 3) := dk_180 0 3 (dk_at dksX3_pulls_0 11 rfl rfl)
theorem dX3_pulls_14 : decode cX3_pulls 14 = .ok (.getfield 45, 3) := dk_180 0 45 (dk_at dksX3_pulls_0 14 rfl rfl)
theorem dX3_pulls_17 : decode cX3_pulls 17 = .ok (.getfield 86, 3) := dk_180 0 86 (dk_at dksX3_pulls_0 17 rfl rfl)
theorem dX3_pulls_20 : decode cX3_pulls 20 = .ok (.ifnonnull 23, 3) := dk_199 0 23 (dk_at dksX3_pulls_0 20 rfl rfl)
theorem dX3_pulls_23 : decode cX3_pulls 23 = .ok (.aload_n 0, 1) := dk_42 (dk_at dksX3_pulls_0 23 rfl rfl)
theorem dX3_pulls_24 : decode cX3_pulls 24 = .ok (.iload_n 1, 1) := dk_27 (dk_at dksX3_pulls_1 0 rfl rfl)
theorem dX3_pulls_25 : decode cX3_pulls 25 = .ok (.invokevirtual 65, 3) := dk_182 0 65 (dk_at dksX3_pulls_1 1 rfl rfl)
theorem dX3_pulls_28 : decode cX3_pulls 28 = .ok (.iconst 2, 1) := dk_5 (dk_at dksX3_pulls_1 4 rfl rfl)
theorem dX3_pulls_29 : decode cX3_pulls 29 = .ok (.aload_n 0, 1) := dk_42 (dk_at dksX3_pulls_1 5 rfl rfl)
theorem dX3_pulls_30 : decode cX3_pulls 30 = .ok (.getfield 15, 3) := dk_180 0 15 (dk_at dksX3_pulls_1 6 rfl rfl)
theorem dX3_pulls_33 : decode cX3_pulls 33 = .ok (.iload_n 1, 1) := dk_27 (dk_at dksX3_pulls_1 9 rfl rfl)
theorem dX3_pulls_34 : decode cX3_pulls 34 = .ok (.iaload, 1) := dk_46 (dk_at dksX3_pulls_1 10 rfl rfl)
theorem dX3_pulls_35 : decode cX3_pulls 35 = .ok (.imul, 1) := dk_104 (dk_at dksX3_pulls_1 11 rfl rfl)
theorem dX3_pulls_36 : decode cX3_pulls 36 = .ok (.isub, 1) := dk_100 (dk_at dksX3_pulls_1 12 rfl rfl)
theorem dX3_pulls_37 : decode cX3_pulls 37 = .ok (.bipush 9, 2) := dk_16 9 (dk_at dksX3_pulls_1 13 rfl rfl)
theorem dX3_pulls_39 : decode cX3_pulls 39 = .ok (.idiv, 1) := dk_108 (dk_at dksX3_pulls_1 15 rfl rfl)
theorem dX3_pulls_40 : decode cX3_pulls 40 = .ok (.goto 18, 3) := dk_167 0 18 (dk_at dksX3_pulls_1 16 rfl rfl)
theorem dX3_pulls_43 : decode cX3_pulls 43 = .ok (.aload_n 0, 1) := dk_42 (dk_at dksX3_pulls_1 19 rfl rfl)
theorem dX3_pulls_44 : decode cX3_pulls 44 = .ok (.aload_n 0, 1) := dk_42 (dk_at dksX3_pulls_1 20 rfl rfl)
theorem dX3_pulls_45 : decode cX3_pulls 45 = .ok (.getfield 3, 3) := dk_180 0 3 (dk_at dksX3_pulls_1 21 rfl rfl)
theorem dX3_pulls_48 : decode cX3_pulls 48 = .ok (.getfield 45, 3) := dk_180 0 45 (dk_at dksX3_pulls_2 0 rfl rfl)
theorem dX3_pulls_51 : decode cX3_pulls 51 = .ok (.getfield 86, 3) := dk_180 0 86 (dk_at dksX3_pulls_2 3 rfl rfl)
theorem dX3_pulls_54 : decode cX3_pulls 54 = .ok (.iload_n 1, 1) := dk_27 (dk_at dksX3_pulls_2 6 rfl rfl)
theorem dX3_pulls_55 : decode cX3_pulls 55 = .ok (.invokevirtual 90, 3) := dk_182 0 90 (dk_at dksX3_pulls_2 7 rfl rfl)
theorem dX3_pulls_58 : decode cX3_pulls 58 = .ok (.istore_n 2, 1) := dk_61 (dk_at dksX3_pulls_2 10 rfl rfl)
theorem dX3_pulls_59 : decode cX3_pulls 59 = .ok (.iload_n 2, 1) := dk_28 (dk_at dksX3_pulls_2 11 rfl rfl)
theorem dX3_pulls_60 : decode cX3_pulls 60 = .ok (.bipush (-9), 2) := dk_16 247 (dk_at dksX3_pulls_2 12 rfl rfl)
theorem dX3_pulls_62 : decode cX3_pulls 62 = .ok (.bipush 9, 2) := dk_16 9 (dk_at dksX3_pulls_2 14 rfl rfl)
theorem dX3_pulls_64 : decode cX3_pulls 64 = .ok (.invokestatic 94, 3) := dk_184 0 94 (dk_at dksX3_pulls_2 16 rfl rfl)
theorem dX3_pulls_67 : decode cX3_pulls 67 = .ok (.ireturn, 1) := dk_172 (dk_at dksX3_pulls_2 19 rfl rfl)
abbrev cX3_pass : ByteArray := prog_4_method_14_code
def yX3_pass : MethodName := ⟨RX3, "pass", "()LHorizonSeam$Line;"⟩
def dkwX3_pass_8 : List UInt8 := [42, 176]
abbrev dktX3_pass_8 : List UInt8 := dkwX3_pass_8 ++ []
def dkwX3_pass_7 : List UInt8 := [182, 0, 140, 42, 27, 182, 0, 144, 132, 1, 1, 167, 255, 199, 42, 89, 180, 0, 41, 4, 96, 181, 0, 41]
abbrev dktX3_pass_7 : List UInt8 := dkwX3_pass_7 ++ dktX3_pass_8
def dkwX3_pass_6 : List UInt8 := [180, 0, 45, 180, 0, 137, 112, 42, 180, 0, 3, 180, 0, 45, 180, 0, 137, 4, 100, 160, 0, 19, 42, 27]
abbrev dktX3_pass_6 : List UInt8 := dkwX3_pass_6 ++ dktX3_pass_7
def dkwX3_pass_5 : List UInt8 := [27, 42, 180, 0, 3, 180, 0, 45, 182, 0, 49, 162, 0, 49, 42, 180, 0, 41, 42, 180, 0, 3]
abbrev dktX3_pass_5 : List UInt8 := dkwX3_pass_5 ++ dktX3_pass_6
def dkwX3_pass_4 : List UInt8 := [182, 0, 82, 154, 0, 13, 42, 27, 42, 27, 182, 0, 132, 182, 0, 134, 132, 1, 1, 167, 255, 221, 3, 60]
abbrev dktX3_pass_4 : List UInt8 := dkwX3_pass_4 ++ dktX3_pass_5
def dkwX3_pass_3 : List UInt8 := [132, 1, 1, 167, 255, 220, 3, 60, 27, 42, 180, 0, 3, 180, 0, 45, 180, 0, 127, 162, 0, 27, 42, 27]
abbrev dktX3_pass_3 : List UInt8 := dkwX3_pass_3 ++ dktX3_pass_4
def dkwX3_pass_2 : List UInt8 := [162, 0, 28, 42, 27, 182, 0, 82, 154, 0, 14, 42, 27, 42, 180, 0, 31, 27, 46, 182, 0, 107]
abbrev dktX3_pass_2 : List UInt8 := dkwX3_pass_2 ++ dktX3_pass_3
def dkwX3_pass_1 : List UInt8 := [182, 0, 130, 79, 132, 1, 1, 167, 255, 228, 3, 60, 27, 42, 180, 0, 3, 180, 0, 45, 180, 0, 127]
abbrev dktX3_pass_1 : List UInt8 := dkwX3_pass_1 ++ dktX3_pass_2
def dkwX3_pass_0 : List UInt8 := [3, 60, 27, 42, 180, 0, 3, 180, 0, 45, 180, 0, 127, 162, 0, 20, 42, 180, 0, 31, 27, 42, 27]
abbrev dktX3_pass_0 : List UInt8 := dkwX3_pass_0 ++ dktX3_pass_1
theorem dksX3_pass_0 : cX3_pass.data.toList.drop 0 = dktX3_pass_0 := by decide +kernel
theorem dksX3_pass_1 : cX3_pass.data.toList.drop 23 = dktX3_pass_1 := dk_seg dksX3_pass_0 23 rfl rfl
theorem dksX3_pass_2 : cX3_pass.data.toList.drop 46 = dktX3_pass_2 := dk_seg dksX3_pass_1 23 rfl rfl
theorem dksX3_pass_3 : cX3_pass.data.toList.drop 68 = dktX3_pass_3 := dk_seg dksX3_pass_2 22 rfl rfl
theorem dksX3_pass_4 : cX3_pass.data.toList.drop 92 = dktX3_pass_4 := dk_seg dksX3_pass_3 24 rfl rfl
theorem dksX3_pass_5 : cX3_pass.data.toList.drop 116 = dktX3_pass_5 := dk_seg dksX3_pass_4 24 rfl rfl
theorem dksX3_pass_6 : cX3_pass.data.toList.drop 138 = dktX3_pass_6 := dk_seg dksX3_pass_5 22 rfl rfl
theorem dksX3_pass_7 : cX3_pass.data.toList.drop 162 = dktX3_pass_7 := dk_seg dksX3_pass_6 24 rfl rfl
theorem dksX3_pass_8 : cX3_pass.data.toList.drop 186 = dktX3_pass_8 := dk_seg dksX3_pass_7 24 rfl rfl
theorem dX3_pass_0 : decode cX3_pass 0 = .ok (.iconst 0, 1) := dk_3 (dk_at dksX3_pass_0 0 rfl rfl)
theorem dX3_pass_1 : decode cX3_pass 1 = .ok (.istore_n 1, 1) := dk_60 (dk_at dksX3_pass_0 1 rfl rfl)
theorem dX3_pass_2 : decode cX3_pass 2 = .ok (.iload_n 1, 1) := dk_27 (dk_at dksX3_pass_0 2 rfl rfl)
theorem dX3_pass_3 : decode cX3_pass 3 = .ok (.aload_n 0, 1) := dk_42 (dk_at dksX3_pass_0 3 rfl rfl)
theorem dX3_pass_4 : decode cX3_pass 4 = .ok (.getfield 3, 3) := dk_180 0 3 (dk_at dksX3_pass_0 4 rfl rfl)
theorem dX3_pass_7 : decode cX3_pass 7 = .ok (.getfield 45, 3) := dk_180 0 45 (dk_at dksX3_pass_0 7 rfl rfl)
theorem dX3_pass_10 : decode cX3_pass 10 = .ok (.getfield 127, 3) := dk_180 0 127 (dk_at dksX3_pass_0 10 rfl rfl)
theorem dX3_pass_13 : decode cX3_pass 13 = .ok (.if_icmp .ge 20, 3) := dk_162 0 20 (dk_at dksX3_pass_0 13 rfl rfl)
theorem dX3_pass_16 : decode cX3_pass 16 = .ok (.aload_n 0, 1) := dk_42 (dk_at dksX3_pass_0 16 rfl rfl)
theorem dX3_pass_17 : decode cX3_pass 17 = .ok (.getfield 31, 3) := dk_180 0 31 (dk_at dksX3_pass_0 17 rfl rfl)
theorem dX3_pass_20 : decode cX3_pass 20 = .ok (.iload_n 1, 1) := dk_27 (dk_at dksX3_pass_0 20 rfl rfl)
theorem dX3_pass_21 : decode cX3_pass 21 = .ok (.aload_n 0, 1) := dk_42 (dk_at dksX3_pass_0 21 rfl rfl)
theorem dX3_pass_22 : decode cX3_pass 22 = .ok (.iload_n 1, 1) := dk_27 (dk_at dksX3_pass_0 22 rfl rfl)
theorem dX3_pass_23 : decode cX3_pass 23 = .ok (.invokevirtual 130, 3) := dk_182 0 130 (dk_at dksX3_pass_1 0 rfl rfl)
theorem dX3_pass_26 : decode cX3_pass 26 = .ok (.iastore, 1) := dk_79 (dk_at dksX3_pass_1 3 rfl rfl)
theorem dX3_pass_27 : decode cX3_pass 27 = .ok (.iinc 1 1, 3) := dk_132 1 1 (dk_at dksX3_pass_1 4 rfl rfl)
theorem dX3_pass_30 : decode cX3_pass 30 = .ok (.goto (-28), 3) := dk_167 255 228 (dk_at dksX3_pass_1 7 rfl rfl)
theorem dX3_pass_33 : decode cX3_pass 33 = .ok (.iconst 0, 1) := dk_3 (dk_at dksX3_pass_1 10 rfl rfl)
theorem dX3_pass_34 : decode cX3_pass 34 = .ok (.istore_n 1, 1) := dk_60 (dk_at dksX3_pass_1 11 rfl rfl)
theorem dX3_pass_35 : decode cX3_pass 35 = .ok (.iload_n 1, 1) := dk_27 (dk_at dksX3_pass_1 12 rfl rfl)
theorem dX3_pass_36 : decode cX3_pass 36 = .ok (.aload_n 0, 1) := dk_42 (dk_at dksX3_pass_1 13 rfl rfl)
theorem dX3_pass_37 : decode cX3_pass 37 = .ok (.getfield 3, 3) := dk_180 0 3 (dk_at dksX3_pass_1 14 rfl rfl)
theorem dX3_pass_40 : decode cX3_pass 40 = .ok (.getfield 45, 3) := dk_180 0 45 (dk_at dksX3_pass_1 17 rfl rfl)
theorem dX3_pass_43 : decode cX3_pass 43 = .ok (.getfield 127, 3) := dk_180 0 127 (dk_at dksX3_pass_1 20 rfl rfl)
theorem dX3_pass_46 : decode cX3_pass 46 = .ok (.if_icmp .ge 28, 3) := dk_162 0 28 (dk_at dksX3_pass_2 0 rfl rfl)
theorem dX3_pass_49 : decode cX3_pass 49 = .ok (.aload_n 0, 1) := dk_42 (dk_at dksX3_pass_2 3 rfl rfl)
theorem dX3_pass_50 : decode cX3_pass 50 = .ok (.iload_n 1, 1) := dk_27 (dk_at dksX3_pass_2 4 rfl rfl)
theorem dX3_pass_51 : decode cX3_pass 51 = .ok (.invokevirtual 82, 3) := dk_182 0 82 (dk_at dksX3_pass_2 5 rfl rfl)
theorem dX3_pass_54 : decode cX3_pass 54 = .ok (.ifCond .ne 14, 3) := dk_154 0 14 (dk_at dksX3_pass_2 8 rfl rfl)
theorem dX3_pass_57 : decode cX3_pass 57 = .ok (.aload_n 0, 1) := dk_42 (dk_at dksX3_pass_2 11 rfl rfl)
theorem dX3_pass_58 : decode cX3_pass 58 = .ok (.iload_n 1, 1) := dk_27 (dk_at dksX3_pass_2 12 rfl rfl)
theorem dX3_pass_59 : decode cX3_pass 59 = .ok (.aload_n 0, 1) := dk_42 (dk_at dksX3_pass_2 13 rfl rfl)
theorem dX3_pass_60 : decode cX3_pass 60 = .ok (.getfield 31, 3) := dk_180 0 31 (dk_at dksX3_pass_2 14 rfl rfl)
theorem dX3_pass_63 : decode cX3_pass 63 = .ok (.iload_n 1, 1) := dk_27 (dk_at dksX3_pass_2 17 rfl rfl)
theorem dX3_pass_64 : decode cX3_pass 64 = .ok (.iaload, 1) := dk_46 (dk_at dksX3_pass_2 18 rfl rfl)
theorem dX3_pass_65 : decode cX3_pass 65 = .ok (.invokevirtual 107, 3) := dk_182 0 107 (dk_at dksX3_pass_2 19 rfl rfl)
theorem dX3_pass_68 : decode cX3_pass 68 = .ok (.iinc 1 1, 3) := dk_132 1 1 (dk_at dksX3_pass_3 0 rfl rfl)
theorem dX3_pass_71 : decode cX3_pass 71 = .ok (.goto (-36), 3) := dk_167 255 220 (dk_at dksX3_pass_3 3 rfl rfl)
theorem dX3_pass_74 : decode cX3_pass 74 = .ok (.iconst 0, 1) := dk_3 (dk_at dksX3_pass_3 6 rfl rfl)
theorem dX3_pass_75 : decode cX3_pass 75 = .ok (.istore_n 1, 1) := dk_60 (dk_at dksX3_pass_3 7 rfl rfl)
theorem dX3_pass_76 : decode cX3_pass 76 = .ok (.iload_n 1, 1) := dk_27 (dk_at dksX3_pass_3 8 rfl rfl)
theorem dX3_pass_77 : decode cX3_pass 77 = .ok (.aload_n 0, 1) := dk_42 (dk_at dksX3_pass_3 9 rfl rfl)
theorem dX3_pass_78 : decode cX3_pass 78 = .ok (.getfield 3, 3) := dk_180 0 3 (dk_at dksX3_pass_3 10 rfl rfl)
theorem dX3_pass_81 : decode cX3_pass 81 = .ok (.getfield 45, 3) := dk_180 0 45 (dk_at dksX3_pass_3 13 rfl rfl)
theorem dX3_pass_84 : decode cX3_pass 84 = .ok (.getfield 127, 3) := dk_180 0 127 (dk_at dksX3_pass_3 16 rfl rfl)
theorem dX3_pass_87 : decode cX3_pass 87 = .ok (.if_icmp .ge 27, 3) := dk_162 0 27 (dk_at dksX3_pass_3 19 rfl rfl)
theorem dX3_pass_90 : decode cX3_pass 90 = .ok (.aload_n 0, 1) := dk_42 (dk_at dksX3_pass_3 22 rfl rfl)
theorem dX3_pass_91 : decode cX3_pass 91 = .ok (.iload_n 1, 1) := dk_27 (dk_at dksX3_pass_3 23 rfl rfl)
theorem dX3_pass_92 : decode cX3_pass 92 = .ok (.invokevirtual 82, 3) := dk_182 0 82 (dk_at dksX3_pass_4 0 rfl rfl)
theorem dX3_pass_95 : decode cX3_pass 95 = .ok (.ifCond .ne 13, 3) := dk_154 0 13 (dk_at dksX3_pass_4 3 rfl rfl)
theorem dX3_pass_98 : decode cX3_pass 98 = .ok (.aload_n 0, 1) := dk_42 (dk_at dksX3_pass_4 6 rfl rfl)
theorem dX3_pass_99 : decode cX3_pass 99 = .ok (.iload_n 1, 1) := dk_27 (dk_at dksX3_pass_4 7 rfl rfl)
theorem dX3_pass_100 : decode cX3_pass 100 = .ok (.aload_n 0, 1) := dk_42 (dk_at dksX3_pass_4 8 rfl rfl)
theorem dX3_pass_101 : decode cX3_pass 101 = .ok (.iload_n 1, 1) := dk_27 (dk_at dksX3_pass_4 9 rfl rfl)
theorem dX3_pass_102 : decode cX3_pass 102 = .ok (.invokevirtual 132, 3) := dk_182 0 132 (dk_at dksX3_pass_4 10 rfl rfl)
theorem dX3_pass_105 : decode cX3_pass 105 = .ok (.invokevirtual 134, 3) := dk_182 0 134 (dk_at dksX3_pass_4 13 rfl rfl)
theorem dX3_pass_108 : decode cX3_pass 108 = .ok (.iinc 1 1, 3) := dk_132 1 1 (dk_at dksX3_pass_4 16 rfl rfl)
theorem dX3_pass_111 : decode cX3_pass 111 = .ok (.goto (-35), 3) := dk_167 255 221 (dk_at dksX3_pass_4 19 rfl rfl)
theorem dX3_pass_114 : decode cX3_pass 114 = .ok (.iconst 0, 1) := dk_3 (dk_at dksX3_pass_4 22 rfl rfl)
theorem dX3_pass_115 : decode cX3_pass 115 = .ok (.istore_n 1, 1) := dk_60 (dk_at dksX3_pass_4 23 rfl rfl)
theorem dX3_pass_116 : decode cX3_pass 116 = .ok (.iload_n 1, 1) := dk_27 (dk_at dksX3_pass_5 0 rfl rfl)
theorem dX3_pass_117 : decode cX3_pass 117 = .ok (.aload_n 0, 1) := dk_42 (dk_at dksX3_pass_5 1 rfl rfl)
theorem dX3_pass_118 : decode cX3_pass 118 = .ok (.getfield 3, 3) := dk_180 0 3 (dk_at dksX3_pass_5 2 rfl rfl)
theorem dX3_pass_121 : decode cX3_pass 121 = .ok (.getfield 45, 3) := dk_180 0 45 (dk_at dksX3_pass_5 5 rfl rfl)
theorem dX3_pass_124 : decode cX3_pass 124 = .ok (.invokevirtual 49, 3) := dk_182 0 49 (dk_at dksX3_pass_5 8 rfl rfl)
theorem dX3_pass_127 : decode cX3_pass 127 = .ok (.if_icmp .ge 49, 3) := dk_162 0 49 (dk_at dksX3_pass_5 11 rfl rfl)
theorem dX3_pass_130 : decode cX3_pass 130 = .ok (.aload_n 0, 1) := dk_42 (dk_at dksX3_pass_5 14 rfl rfl)
theorem dX3_pass_131 : decode cX3_pass 131 = .ok (.getfield 41, 3) := dk_180 0 41 (dk_at dksX3_pass_5 15 rfl rfl)
theorem dX3_pass_134 : decode cX3_pass 134 = .ok (.aload_n 0, 1) := dk_42 (dk_at dksX3_pass_5 18 rfl rfl)
theorem dX3_pass_135 : decode cX3_pass 135 = .ok (.getfield 3, 3) := dk_180 0 3 (dk_at dksX3_pass_5 19 rfl rfl)
theorem dX3_pass_138 : decode cX3_pass 138 = .ok (.getfield 45, 3) := dk_180 0 45 (dk_at dksX3_pass_6 0 rfl rfl)
theorem dX3_pass_141 : decode cX3_pass 141 = .ok (.getfield 137, 3) := dk_180 0 137 (dk_at dksX3_pass_6 3 rfl rfl)
theorem dX3_pass_144 : decode cX3_pass 144 = .ok (.irem, 1) := dk_112 (dk_at dksX3_pass_6 6 rfl rfl)
theorem dX3_pass_145 : decode cX3_pass 145 = .ok (.aload_n 0, 1) := dk_42 (dk_at dksX3_pass_6 7 rfl rfl)
theorem dX3_pass_146 : decode cX3_pass 146 = .ok (.getfield 3, 3) := dk_180 0 3 (dk_at dksX3_pass_6 8 rfl rfl)
theorem dX3_pass_149 : decode cX3_pass 149 = .ok (.getfield 45, 3) := dk_180 0 45 (dk_at dksX3_pass_6 11 rfl rfl)
theorem dX3_pass_152 : decode cX3_pass 152 = .ok (.getfield 137, 3) := dk_180 0 137 (dk_at dksX3_pass_6 14 rfl rfl)
theorem dX3_pass_155 : decode cX3_pass 155 = .ok (.iconst 1, 1) := dk_4 (dk_at dksX3_pass_6 17 rfl rfl)
theorem dX3_pass_156 : decode cX3_pass 156 = .ok (.isub, 1) := dk_100 (dk_at dksX3_pass_6 18 rfl rfl)
theorem dX3_pass_157 : decode cX3_pass 157 = .ok (.if_icmp .ne 19, 3) := dk_160 0 19 (dk_at dksX3_pass_6 19 rfl rfl)
theorem dX3_pass_160 : decode cX3_pass 160 = .ok (.aload_n 0, 1) := dk_42 (dk_at dksX3_pass_6 22 rfl rfl)
theorem dX3_pass_161 : decode cX3_pass 161 = .ok (.iload_n 1, 1) := dk_27 (dk_at dksX3_pass_6 23 rfl rfl)
theorem dX3_pass_162 : decode cX3_pass 162 = .ok (.invokevirtual 140, 3) := dk_182 0 140 (dk_at dksX3_pass_7 0 rfl rfl)
theorem dX3_pass_165 : decode cX3_pass 165 = .ok (.aload_n 0, 1) := dk_42 (dk_at dksX3_pass_7 3 rfl rfl)
theorem dX3_pass_166 : decode cX3_pass 166 = .ok (.iload_n 1, 1) := dk_27 (dk_at dksX3_pass_7 4 rfl rfl)
theorem dX3_pass_167 : decode cX3_pass 167 = .ok (.invokevirtual 144, 3) := dk_182 0 144 (dk_at dksX3_pass_7 5 rfl rfl)
theorem dX3_pass_170 : decode cX3_pass 170 = .ok (.iinc 1 1, 3) := dk_132 1 1 (dk_at dksX3_pass_7 8 rfl rfl)
theorem dX3_pass_173 : decode cX3_pass 173 = .ok (.goto (-57), 3) := dk_167 255 199 (dk_at dksX3_pass_7 11 rfl rfl)
theorem dX3_pass_176 : decode cX3_pass 176 = .ok (.aload_n 0, 1) := dk_42 (dk_at dksX3_pass_7 14 rfl rfl)
theorem dX3_pass_177 : decode cX3_pass 177 = .ok (.dup, 1) := dk_89 (dk_at dksX3_pass_7 15 rfl rfl)
theorem dX3_pass_178 : decode cX3_pass 178 = .ok (.getfield 41, 3) := dk_180 0 41 (dk_at dksX3_pass_7 16 rfl rfl)
theorem dX3_pass_181 : decode cX3_pass 181 = .ok (.iconst 1, 1) := dk_4 (dk_at dksX3_pass_7 19 rfl rfl)
theorem dX3_pass_182 : decode cX3_pass 182 = .ok (.iadd, 1) := dk_96 (dk_at dksX3_pass_7 20 rfl rfl)
theorem dX3_pass_183 : decode cX3_pass 183 = .ok (.putfield 41, 3) := dk_181 0 41 (dk_at dksX3_pass_7 21 rfl rfl)
theorem dX3_pass_186 : decode cX3_pass 186 = .ok (.aload_n 0, 1) := dk_42 (dk_at dksX3_pass_8 0 rfl rfl)
theorem dX3_pass_187 : decode cX3_pass 187 = .ok (.areturn, 1) := dk_176 (dk_at dksX3_pass_8 1 rfl rfl)
abbrev cX1_opensIn : ByteArray := prog_1_method_29_code
def yX1_opensIn : MethodName := ⟨RX1, "opensIn", "(I)I"⟩
def dkwX1_opensIn_2 : List UInt8 := [172]
abbrev dktX1_opensIn_2 : List UInt8 := dkwX1_opensIn_2 ++ []
def dkwX1_opensIn_1 : List UInt8 := [27, 182, 0, 213, 153, 0, 5, 28, 172, 42, 180, 0, 44, 182, 0, 237, 87, 132, 2, 1, 167, 255, 226, 2]
abbrev dktX1_opensIn_1 : List UInt8 := dkwX1_opensIn_1 ++ dktX1_opensIn_2
def dkwX1_opensIn_0 : List UInt8 := [42, 180, 0, 44, 42, 180, 0, 40, 182, 0, 224, 87, 3, 61, 28, 16, 60, 163, 0, 30, 42, 180, 0, 44]
abbrev dktX1_opensIn_0 : List UInt8 := dkwX1_opensIn_0 ++ dktX1_opensIn_1
theorem dksX1_opensIn_0 : cX1_opensIn.data.toList.drop 0 = dktX1_opensIn_0 := by decide +kernel
theorem dksX1_opensIn_1 : cX1_opensIn.data.toList.drop 24 = dktX1_opensIn_1 := dk_seg dksX1_opensIn_0 24 rfl rfl
theorem dksX1_opensIn_2 : cX1_opensIn.data.toList.drop 48 = dktX1_opensIn_2 := dk_seg dksX1_opensIn_1 24 rfl rfl
theorem dX1_opensIn_0 : decode cX1_opensIn 0 = .ok (.aload_n 0, 1) := dk_42 (dk_at dksX1_opensIn_0 0 rfl rfl)
theorem dX1_opensIn_1 : decode cX1_opensIn 1 = .ok (.getfield 44, 3) := dk_180 0 44 (dk_at dksX1_opensIn_0 1 rfl rfl)
theorem dX1_opensIn_4 : decode cX1_opensIn 4 = .ok (.aload_n 0, 1) := dk_42 (dk_at dksX1_opensIn_0 4 rfl rfl)
theorem dX1_opensIn_5 : decode cX1_opensIn 5 = .ok (.getfield 40, 3) := dk_180 0 40 (dk_at dksX1_opensIn_0 5 rfl rfl)
theorem dX1_opensIn_8 : decode cX1_opensIn 8 = .ok (.invokevirtual 224, 3) := dk_182 0 224 (dk_at dksX1_opensIn_0 8 rfl rfl)
theorem dX1_opensIn_11 : decode cX1_opensIn 11 = .ok (.pop, 1) := dk_87 (dk_at dksX1_opensIn_0 11 rfl rfl)
theorem dX1_opensIn_12 : decode cX1_opensIn 12 = .ok (.iconst 0, 1) := dk_3 (dk_at dksX1_opensIn_0 12 rfl rfl)
theorem dX1_opensIn_13 : decode cX1_opensIn 13 = .ok (.istore_n 2, 1) := dk_61 (dk_at dksX1_opensIn_0 13 rfl rfl)
theorem dX1_opensIn_14 : decode cX1_opensIn 14 = .ok (.iload_n 2, 1) := dk_28 (dk_at dksX1_opensIn_0 14 rfl rfl)
theorem dX1_opensIn_15 : decode cX1_opensIn 15 = .ok (.bipush 60, 2) := dk_16 60 (dk_at dksX1_opensIn_0 15 rfl rfl)
theorem dX1_opensIn_17 : decode cX1_opensIn 17 = .ok (.if_icmp .gt 30, 3) := dk_163 0 30 (dk_at dksX1_opensIn_0 17 rfl rfl)
theorem dX1_opensIn_20 : decode cX1_opensIn 20 = .ok (.aload_n 0, 1) := dk_42 (dk_at dksX1_opensIn_0 20 rfl rfl)
theorem dX1_opensIn_21 : decode cX1_opensIn 21 = .ok (.getfield 44, 3) := dk_180 0 44 (dk_at dksX1_opensIn_0 21 rfl rfl)
theorem dX1_opensIn_24 : decode cX1_opensIn 24 = .ok (.iload_n 1, 1) := dk_27 (dk_at dksX1_opensIn_1 0 rfl rfl)
theorem dX1_opensIn_25 : decode cX1_opensIn 25 = .ok (.invokevirtual 213, 3) := dk_182 0 213 (dk_at dksX1_opensIn_1 1 rfl rfl)
theorem dX1_opensIn_28 : decode cX1_opensIn 28 = .ok (.ifCond .eq 5, 3) := dk_153 0 5 (dk_at dksX1_opensIn_1 4 rfl rfl)
theorem dX1_opensIn_31 : decode cX1_opensIn 31 = .ok (.iload_n 2, 1) := dk_28 (dk_at dksX1_opensIn_1 7 rfl rfl)
theorem dX1_opensIn_32 : decode cX1_opensIn 32 = .ok (.ireturn, 1) := dk_172 (dk_at dksX1_opensIn_1 8 rfl rfl)
theorem dX1_opensIn_33 : decode cX1_opensIn 33 = .ok (.aload_n 0, 1) := dk_42 (dk_at dksX1_opensIn_1 9 rfl rfl)
theorem dX1_opensIn_34 : decode cX1_opensIn 34 = .ok (.getfield 44, 3) := dk_180 0 44 (dk_at dksX1_opensIn_1 10 rfl rfl)
theorem dX1_opensIn_37 : decode cX1_opensIn 37 = .ok (.invokevirtual 237, 3) := dk_182 0 237 (dk_at dksX1_opensIn_1 13 rfl rfl)
theorem dX1_opensIn_40 : decode cX1_opensIn 40 = .ok (.pop, 1) := dk_87 (dk_at dksX1_opensIn_1 16 rfl rfl)
theorem dX1_opensIn_41 : decode cX1_opensIn 41 = .ok (.iinc 2 1, 3) := dk_132 2 1 (dk_at dksX1_opensIn_1 17 rfl rfl)
theorem dX1_opensIn_44 : decode cX1_opensIn 44 = .ok (.goto (-30), 3) := dk_167 255 226 (dk_at dksX1_opensIn_1 20 rfl rfl)
theorem dX1_opensIn_47 : decode cX1_opensIn 47 = .ok (.iconst (-1), 1) := dk_2 (dk_at dksX1_opensIn_1 23 rfl rfl)
theorem dX1_opensIn_48 : decode cX1_opensIn 48 = .ok (.ireturn, 1) := dk_172 (dk_at dksX1_opensIn_2 0 rfl rfl)
abbrev cX1_first : ByteArray := prog_1_method_31_code
def yX1_first : MethodName := ⟨RX1, "first", "()I"⟩
def dkwX1_first_2 : List UInt8 := [132, 3, 1, 167, 255, 215, 27, 172]
abbrev dktX1_first_2 : List UInt8 := dkwX1_first_2 ++ []
def dkwX1_first_1 : List UInt8 := [54, 4, 21, 4, 4, 161, 0, 17, 21, 4, 28, 161, 0, 6, 167, 0, 8, 29, 60, 21, 4, 61]
abbrev dktX1_first_1 : List UInt8 := dkwX1_first_1 ++ dktX1_first_2
def dkwX1_first_0 : List UInt8 := [2, 60, 18, 243, 61, 3, 62, 29, 42, 180, 0, 31, 180, 0, 115, 162, 0, 36, 42, 29, 182, 0, 240]
abbrev dktX1_first_0 : List UInt8 := dkwX1_first_0 ++ dktX1_first_1
theorem dksX1_first_0 : cX1_first.data.toList.drop 0 = dktX1_first_0 := by decide +kernel
theorem dksX1_first_1 : cX1_first.data.toList.drop 23 = dktX1_first_1 := dk_seg dksX1_first_0 23 rfl rfl
theorem dksX1_first_2 : cX1_first.data.toList.drop 45 = dktX1_first_2 := dk_seg dksX1_first_1 22 rfl rfl
theorem dX1_first_0 : decode cX1_first 0 = .ok (.iconst (-1), 1) := dk_2 (dk_at dksX1_first_0 0 rfl rfl)
theorem dX1_first_1 : decode cX1_first 1 = .ok (.istore_n 1, 1) := dk_60 (dk_at dksX1_first_0 1 rfl rfl)
theorem dX1_first_2 : decode cX1_first 2 = .ok (.ldc 243, 2) := dk_18 243 (dk_at dksX1_first_0 2 rfl rfl)
theorem dX1_first_4 : decode cX1_first 4 = .ok (.istore_n 2, 1) := dk_61 (dk_at dksX1_first_0 4 rfl rfl)
theorem dX1_first_5 : decode cX1_first 5 = .ok (.iconst 0, 1) := dk_3 (dk_at dksX1_first_0 5 rfl rfl)
theorem dX1_first_6 : decode cX1_first 6 = .ok (.istore_n 3, 1) := dk_62 (dk_at dksX1_first_0 6 rfl rfl)
theorem dX1_first_7 : decode cX1_first 7 = .ok (.iload_n 3, 1) := dk_29 (dk_at dksX1_first_0 7 rfl rfl)
theorem dX1_first_8 : decode cX1_first 8 = .ok (.aload_n 0, 1) := dk_42 (dk_at dksX1_first_0 8 rfl rfl)
theorem dX1_first_9 : decode cX1_first 9 = .ok (.getfield 31, 3) := dk_180 0 31 (dk_at dksX1_first_0 9 rfl rfl)
theorem dX1_first_12 : decode cX1_first 12 = .ok (.getfield 115, 3) := dk_180 0 115 (dk_at dksX1_first_0 12 rfl rfl)
theorem dX1_first_15 : decode cX1_first 15 = .ok (.if_icmp .ge 36, 3) := dk_162 0 36 (dk_at dksX1_first_0 15 rfl rfl)
theorem dX1_first_18 : decode cX1_first 18 = .ok (.aload_n 0, 1) := dk_42 (dk_at dksX1_first_0 18 rfl rfl)
theorem dX1_first_19 : decode cX1_first 19 = .ok (.iload_n 3, 1) := dk_29 (dk_at dksX1_first_0 19 rfl rfl)
theorem dX1_first_20 : decode cX1_first 20 = .ok (.invokevirtual 240, 3) := dk_182 0 240 (dk_at dksX1_first_0 20 rfl rfl)
theorem dX1_first_23 : decode cX1_first 23 = .ok (.istore 4, 2) := dk_54 4 (dk_at dksX1_first_1 0 rfl rfl)
theorem dX1_first_25 : decode cX1_first 25 = .ok (.iload 4, 2) := dk_21 4 (dk_at dksX1_first_1 2 rfl rfl)
theorem dX1_first_27 : decode cX1_first 27 = .ok (.iconst 1, 1) := dk_4 (dk_at dksX1_first_1 4 rfl rfl)
theorem dX1_first_28 : decode cX1_first 28 = .ok (.if_icmp .lt 17, 3) := dk_161 0 17 (dk_at dksX1_first_1 5 rfl rfl)
theorem dX1_first_31 : decode cX1_first 31 = .ok (.iload 4, 2) := dk_21 4 (dk_at dksX1_first_1 8 rfl rfl)
theorem dX1_first_33 : decode cX1_first 33 = .ok (.iload_n 2, 1) := dk_28 (dk_at dksX1_first_1 10 rfl rfl)
theorem dX1_first_34 : decode cX1_first 34 = .ok (.if_icmp .lt 6, 3) := dk_161 0 6 (dk_at dksX1_first_1 11 rfl rfl)
theorem dX1_first_37 : decode cX1_first 37 = .ok (.goto 8, 3) := dk_167 0 8 (dk_at dksX1_first_1 14 rfl rfl)
theorem dX1_first_40 : decode cX1_first 40 = .ok (.iload_n 3, 1) := dk_29 (dk_at dksX1_first_1 17 rfl rfl)
theorem dX1_first_41 : decode cX1_first 41 = .ok (.istore_n 1, 1) := dk_60 (dk_at dksX1_first_1 18 rfl rfl)
theorem dX1_first_42 : decode cX1_first 42 = .ok (.iload 4, 2) := dk_21 4 (dk_at dksX1_first_1 19 rfl rfl)
theorem dX1_first_44 : decode cX1_first 44 = .ok (.istore_n 2, 1) := dk_61 (dk_at dksX1_first_1 21 rfl rfl)
theorem dX1_first_45 : decode cX1_first 45 = .ok (.iinc 3 1, 3) := dk_132 3 1 (dk_at dksX1_first_2 0 rfl rfl)
theorem dX1_first_48 : decode cX1_first 48 = .ok (.goto (-41), 3) := dk_167 255 215 (dk_at dksX1_first_2 3 rfl rfl)
theorem dX1_first_51 : decode cX1_first 51 = .ok (.iload_n 1, 1) := dk_27 (dk_at dksX1_first_2 6 rfl rfl)
theorem dX1_first_52 : decode cX1_first 52 = .ok (.ireturn, 1) := dk_172 (dk_at dksX1_first_2 7 rfl rfl)
abbrev cX3_allThread : ByteArray := prog_4_method_19_code
def yX3_allThread : MethodName := ⟨RX3, "allThread", "()I"⟩
def dkwX3_allThread_1 : List UInt8 := [46, 96, 60, 132, 2, 1, 167, 255, 230, 27, 172]
abbrev dktX3_allThread_1 : List UInt8 := dkwX3_allThread_1 ++ []
def dkwX3_allThread_0 : List UInt8 := [3, 60, 3, 61, 28, 42, 180, 0, 3, 180, 0, 45, 182, 0, 49, 162, 0, 18, 27, 42, 180, 0, 28, 28]
abbrev dktX3_allThread_0 : List UInt8 := dkwX3_allThread_0 ++ dktX3_allThread_1
theorem dksX3_allThread_0 : cX3_allThread.data.toList.drop 0 = dktX3_allThread_0 := by decide +kernel
theorem dksX3_allThread_1 : cX3_allThread.data.toList.drop 24 = dktX3_allThread_1 := dk_seg dksX3_allThread_0 24 rfl rfl
theorem dX3_allThread_0 : decode cX3_allThread 0 = .ok (.iconst 0, 1) := dk_3 (dk_at dksX3_allThread_0 0 rfl rfl)
theorem dX3_allThread_1 : decode cX3_allThread 1 = .ok (.istore_n 1, 1) := dk_60 (dk_at dksX3_allThread_0 1 rfl rfl)
theorem dX3_allThread_2 : decode cX3_allThread 2 = .ok (.iconst 0, 1) := dk_3 (dk_at dksX3_allThread_0 2 rfl rfl)
theorem dX3_allThread_3 : decode cX3_allThread 3 = .ok (.istore_n 2, 1) := dk_61 (dk_at dksX3_allThread_0 3 rfl rfl)
theorem dX3_allThread_4 : decode cX3_allThread 4 = .ok (.iload_n 2, 1) := dk_28 (dk_at dksX3_allThread_0 4 rfl rfl)
theorem dX3_allThread_5 : decode cX3_allThread 5 = .ok (.aload_n 0, 1) := dk_42 (dk_at dksX3_allThread_0 5 rfl rfl)
theorem dX3_allThread_6 : decode cX3_allThread 6 = .ok (.getfield 3, 3) := dk_180 0 3 (dk_at dksX3_allThread_0 6 rfl rfl)
theorem dX3_allThread_9 : decode cX3_allThread 9 = .ok (.getfield 45, 3) := dk_180 0 45 (dk_at dksX3_allThread_0 9 rfl rfl)
theorem dX3_allThread_12 : decode cX3_allThread 12 = .ok (.invokevirtual 49, 3) := dk_182 0 49 (dk_at dksX3_allThread_0 12 rfl rfl)
theorem dX3_allThread_15 : decode cX3_allThread 15 = .ok (.if_icmp .ge 18, 3) := dk_162 0 18 (dk_at dksX3_allThread_0 15 rfl rfl)
theorem dX3_allThread_18 : decode cX3_allThread 18 = .ok (.iload_n 1, 1) := dk_27 (dk_at dksX3_allThread_0 18 rfl rfl)
theorem dX3_allThread_19 : decode cX3_allThread 19 = .ok (.aload_n 0, 1) := dk_42 (dk_at dksX3_allThread_0 19 rfl rfl)
theorem dX3_allThread_20 : decode cX3_allThread 20 = .ok (.getfield 28, 3) := dk_180 0 28 (dk_at dksX3_allThread_0 20 rfl rfl)
theorem dX3_allThread_23 : decode cX3_allThread 23 = .ok (.iload_n 2, 1) := dk_28 (dk_at dksX3_allThread_0 23 rfl rfl)
theorem dX3_allThread_24 : decode cX3_allThread 24 = .ok (.iaload, 1) := dk_46 (dk_at dksX3_allThread_1 0 rfl rfl)
theorem dX3_allThread_25 : decode cX3_allThread 25 = .ok (.iadd, 1) := dk_96 (dk_at dksX3_allThread_1 1 rfl rfl)
theorem dX3_allThread_26 : decode cX3_allThread 26 = .ok (.istore_n 1, 1) := dk_60 (dk_at dksX3_allThread_1 2 rfl rfl)
theorem dX3_allThread_27 : decode cX3_allThread 27 = .ok (.iinc 2 1, 3) := dk_132 2 1 (dk_at dksX3_allThread_1 3 rfl rfl)
theorem dX3_allThread_30 : decode cX3_allThread 30 = .ok (.goto (-26), 3) := dk_167 255 230 (dk_at dksX3_allThread_1 6 rfl rfl)
theorem dX3_allThread_33 : decode cX3_allThread 33 = .ok (.iload_n 1, 1) := dk_27 (dk_at dksX3_allThread_1 9 rfl rfl)
theorem dX3_allThread_34 : decode cX3_allThread 34 = .ok (.ireturn, 1) := dk_172 (dk_at dksX3_allThread_1 10 rfl rfl)
abbrev cX1_spent : ByteArray := prog_1_method_33_code
def yX1_spent : MethodName := ⟨RX1, "spent", "()I"⟩
def dkwX1_spent_1 : List UInt8 := [182, 0, 138, 154, 0, 5, 27, 172, 42, 180, 0, 44, 182, 0, 237, 87, 132, 1, 1, 167, 255, 227, 2, 172]
abbrev dktX1_spent_1 : List UInt8 := dkwX1_spent_1 ++ []
def dkwX1_spent_0 : List UInt8 := [42, 180, 0, 44, 42, 180, 0, 40, 182, 0, 224, 87, 3, 60, 27, 16, 60, 163, 0, 29, 42, 180, 0, 44]
abbrev dktX1_spent_0 : List UInt8 := dkwX1_spent_0 ++ dktX1_spent_1
theorem dksX1_spent_0 : cX1_spent.data.toList.drop 0 = dktX1_spent_0 := by decide +kernel
theorem dksX1_spent_1 : cX1_spent.data.toList.drop 24 = dktX1_spent_1 := dk_seg dksX1_spent_0 24 rfl rfl
theorem dX1_spent_0 : decode cX1_spent 0 = .ok (.aload_n 0, 1) := dk_42 (dk_at dksX1_spent_0 0 rfl rfl)
theorem dX1_spent_1 : decode cX1_spent 1 = .ok (.getfield 44, 3) := dk_180 0 44 (dk_at dksX1_spent_0 1 rfl rfl)
theorem dX1_spent_4 : decode cX1_spent 4 = .ok (.aload_n 0, 1) := dk_42 (dk_at dksX1_spent_0 4 rfl rfl)
theorem dX1_spent_5 : decode cX1_spent 5 = .ok (.getfield 40, 3) := dk_180 0 40 (dk_at dksX1_spent_0 5 rfl rfl)
theorem dX1_spent_8 : decode cX1_spent 8 = .ok (.invokevirtual 224, 3) := dk_182 0 224 (dk_at dksX1_spent_0 8 rfl rfl)
theorem dX1_spent_11 : decode cX1_spent 11 = .ok (.pop, 1) := dk_87 (dk_at dksX1_spent_0 11 rfl rfl)
theorem dX1_spent_12 : decode cX1_spent 12 = .ok (.iconst 0, 1) := dk_3 (dk_at dksX1_spent_0 12 rfl rfl)
theorem dX1_spent_13 : decode cX1_spent 13 = .ok (.istore_n 1, 1) := dk_60 (dk_at dksX1_spent_0 13 rfl rfl)
theorem dX1_spent_14 : decode cX1_spent 14 = .ok (.iload_n 1, 1) := dk_27 (dk_at dksX1_spent_0 14 rfl rfl)
theorem dX1_spent_15 : decode cX1_spent 15 = .ok (.bipush 60, 2) := dk_16 60 (dk_at dksX1_spent_0 15 rfl rfl)
theorem dX1_spent_17 : decode cX1_spent 17 = .ok (.if_icmp .gt 29, 3) := dk_163 0 29 (dk_at dksX1_spent_0 17 rfl rfl)
theorem dX1_spent_20 : decode cX1_spent 20 = .ok (.aload_n 0, 1) := dk_42 (dk_at dksX1_spent_0 20 rfl rfl)
theorem dX1_spent_21 : decode cX1_spent 21 = .ok (.getfield 44, 3) := dk_180 0 44 (dk_at dksX1_spent_0 21 rfl rfl)
theorem dX1_spent_24 : decode cX1_spent 24 = .ok (.invokevirtual 138, 3) := dk_182 0 138 (dk_at dksX1_spent_1 0 rfl rfl)
theorem dX1_spent_27 : decode cX1_spent 27 = .ok (.ifCond .ne 5, 3) := dk_154 0 5 (dk_at dksX1_spent_1 3 rfl rfl)
theorem dX1_spent_30 : decode cX1_spent 30 = .ok (.iload_n 1, 1) := dk_27 (dk_at dksX1_spent_1 6 rfl rfl)
theorem dX1_spent_31 : decode cX1_spent 31 = .ok (.ireturn, 1) := dk_172 (dk_at dksX1_spent_1 7 rfl rfl)
theorem dX1_spent_32 : decode cX1_spent 32 = .ok (.aload_n 0, 1) := dk_42 (dk_at dksX1_spent_1 8 rfl rfl)
theorem dX1_spent_33 : decode cX1_spent 33 = .ok (.getfield 44, 3) := dk_180 0 44 (dk_at dksX1_spent_1 9 rfl rfl)
theorem dX1_spent_36 : decode cX1_spent 36 = .ok (.invokevirtual 237, 3) := dk_182 0 237 (dk_at dksX1_spent_1 12 rfl rfl)
theorem dX1_spent_39 : decode cX1_spent 39 = .ok (.pop, 1) := dk_87 (dk_at dksX1_spent_1 15 rfl rfl)
theorem dX1_spent_40 : decode cX1_spent 40 = .ok (.iinc 1 1, 3) := dk_132 1 1 (dk_at dksX1_spent_1 16 rfl rfl)
theorem dX1_spent_43 : decode cX1_spent 43 = .ok (.goto (-29), 3) := dk_167 255 227 (dk_at dksX1_spent_1 19 rfl rfl)
theorem dX1_spent_46 : decode cX1_spent 46 = .ok (.iconst (-1), 1) := dk_2 (dk_at dksX1_spent_1 22 rfl rfl)
theorem dX1_spent_47 : decode cX1_spent 47 = .ok (.ireturn, 1) := dk_172 (dk_at dksX1_spent_1 23 rfl rfl)
abbrev cX3_isLike : ByteArray := prog_4_method_22_code
def yX3_isLike : MethodName := ⟨RX3, "isLike", "(LHorizonSeam$Line;)Z"⟩
def dkwX3_isLike_2 : List UInt8 := [160, 0, 7, 4, 167, 0, 4, 3, 126, 61, 132, 3, 1, 167, 255, 201, 28, 172]
abbrev dktX3_isLike_2 : List UInt8 := dkwX3_isLike_2 ++ []
def dkwX3_isLike_1 : List UInt8 := [46, 43, 180, 0, 15, 29, 46, 160, 0, 22, 42, 180, 0, 19, 29, 46, 43, 180, 0, 19, 29, 46]
abbrev dktX3_isLike_1 : List UInt8 := dkwX3_isLike_1 ++ dktX3_isLike_2
def dkwX3_isLike_0 : List UInt8 := [4, 61, 3, 62, 29, 42, 180, 0, 3, 180, 0, 45, 180, 0, 127, 162, 0, 47, 28, 42, 180, 0, 15, 29]
abbrev dktX3_isLike_0 : List UInt8 := dkwX3_isLike_0 ++ dktX3_isLike_1
theorem dksX3_isLike_0 : cX3_isLike.data.toList.drop 0 = dktX3_isLike_0 := by decide +kernel
theorem dksX3_isLike_1 : cX3_isLike.data.toList.drop 24 = dktX3_isLike_1 := dk_seg dksX3_isLike_0 24 rfl rfl
theorem dksX3_isLike_2 : cX3_isLike.data.toList.drop 46 = dktX3_isLike_2 := dk_seg dksX3_isLike_1 22 rfl rfl
theorem dX3_isLike_0 : decode cX3_isLike 0 = .ok (.iconst 1, 1) := dk_4 (dk_at dksX3_isLike_0 0 rfl rfl)
theorem dX3_isLike_1 : decode cX3_isLike 1 = .ok (.istore_n 2, 1) := dk_61 (dk_at dksX3_isLike_0 1 rfl rfl)
theorem dX3_isLike_2 : decode cX3_isLike 2 = .ok (.iconst 0, 1) := dk_3 (dk_at dksX3_isLike_0 2 rfl rfl)
theorem dX3_isLike_3 : decode cX3_isLike 3 = .ok (.istore_n 3, 1) := dk_62 (dk_at dksX3_isLike_0 3 rfl rfl)
theorem dX3_isLike_4 : decode cX3_isLike 4 = .ok (.iload_n 3, 1) := dk_29 (dk_at dksX3_isLike_0 4 rfl rfl)
theorem dX3_isLike_5 : decode cX3_isLike 5 = .ok (.aload_n 0, 1) := dk_42 (dk_at dksX3_isLike_0 5 rfl rfl)
theorem dX3_isLike_6 : decode cX3_isLike 6 = .ok (.getfield 3, 3) := dk_180 0 3 (dk_at dksX3_isLike_0 6 rfl rfl)
theorem dX3_isLike_9 : decode cX3_isLike 9 = .ok (.getfield 45, 3) := dk_180 0 45 (dk_at dksX3_isLike_0 9 rfl rfl)
theorem dX3_isLike_12 : decode cX3_isLike 12 = .ok (.getfield 127, 3) := dk_180 0 127 (dk_at dksX3_isLike_0 12 rfl rfl)
theorem dX3_isLike_15 : decode cX3_isLike 15 = .ok (.if_icmp .ge 47, 3) := dk_162 0 47 (dk_at dksX3_isLike_0 15 rfl rfl)
theorem dX3_isLike_18 : decode cX3_isLike 18 = .ok (.iload_n 2, 1) := dk_28 (dk_at dksX3_isLike_0 18 rfl rfl)
theorem dX3_isLike_19 : decode cX3_isLike 19 = .ok (.aload_n 0, 1) := dk_42 (dk_at dksX3_isLike_0 19 rfl rfl)
theorem dX3_isLike_20 : decode cX3_isLike 20 = .ok (.getfield 15, 3) := dk_180 0 15 (dk_at dksX3_isLike_0 20 rfl rfl)
theorem dX3_isLike_23 : decode cX3_isLike 23 = .ok (.iload_n 3, 1) := dk_29 (dk_at dksX3_isLike_0 23 rfl rfl)
theorem dX3_isLike_24 : decode cX3_isLike 24 = .ok (.iaload, 1) := dk_46 (dk_at dksX3_isLike_1 0 rfl rfl)
theorem dX3_isLike_25 : decode cX3_isLike 25 = .ok (.aload_n 1, 1) := dk_43 (dk_at dksX3_isLike_1 1 rfl rfl)
theorem dX3_isLike_26 : decode cX3_isLike 26 = .ok (.getfield 15, 3) := dk_180 0 15 (dk_at dksX3_isLike_1 2 rfl rfl)
theorem dX3_isLike_29 : decode cX3_isLike 29 = .ok (.iload_n 3, 1) := dk_29 (dk_at dksX3_isLike_1 5 rfl rfl)
theorem dX3_isLike_30 : decode cX3_isLike 30 = .ok (.iaload, 1) := dk_46 (dk_at dksX3_isLike_1 6 rfl rfl)
theorem dX3_isLike_31 : decode cX3_isLike 31 = .ok (.if_icmp .ne 22, 3) := dk_160 0 22 (dk_at dksX3_isLike_1 7 rfl rfl)
theorem dX3_isLike_34 : decode cX3_isLike 34 = .ok (.aload_n 0, 1) := dk_42 (dk_at dksX3_isLike_1 10 rfl rfl)
theorem dX3_isLike_35 : decode cX3_isLike 35 = .ok (.getfield 19, 3) := dk_180 0 19 (dk_at dksX3_isLike_1 11 rfl rfl)
theorem dX3_isLike_38 : decode cX3_isLike 38 = .ok (.iload_n 3, 1) := dk_29 (dk_at dksX3_isLike_1 14 rfl rfl)
theorem dX3_isLike_39 : decode cX3_isLike 39 = .ok (.iaload, 1) := dk_46 (dk_at dksX3_isLike_1 15 rfl rfl)
theorem dX3_isLike_40 : decode cX3_isLike 40 = .ok (.aload_n 1, 1) := dk_43 (dk_at dksX3_isLike_1 16 rfl rfl)
theorem dX3_isLike_41 : decode cX3_isLike 41 = .ok (.getfield 19, 3) := dk_180 0 19 (dk_at dksX3_isLike_1 17 rfl rfl)
theorem dX3_isLike_44 : decode cX3_isLike 44 = .ok (.iload_n 3, 1) := dk_29 (dk_at dksX3_isLike_1 20 rfl rfl)
theorem dX3_isLike_45 : decode cX3_isLike 45 = .ok (.iaload, 1) := dk_46 (dk_at dksX3_isLike_1 21 rfl rfl)
theorem dX3_isLike_46 : decode cX3_isLike 46 = .ok (.if_icmp .ne 7, 3) := dk_160 0 7 (dk_at dksX3_isLike_2 0 rfl rfl)
theorem dX3_isLike_49 : decode cX3_isLike 49 = .ok (.iconst 1, 1) := dk_4 (dk_at dksX3_isLike_2 3 rfl rfl)
theorem dX3_isLike_50 : decode cX3_isLike 50 = .ok (.goto 4, 3) := dk_167 0 4 (dk_at dksX3_isLike_2 4 rfl rfl)
theorem dX3_isLike_53 : decode cX3_isLike 53 = .ok (.iconst 0, 1) := dk_3 (dk_at dksX3_isLike_2 7 rfl rfl)
theorem dX3_isLike_54 : decode cX3_isLike 54 = .ok (.iand, 1) := dk_126 (dk_at dksX3_isLike_2 8 rfl rfl)
theorem dX3_isLike_55 : decode cX3_isLike 55 = .ok (.istore_n 2, 1) := dk_61 (dk_at dksX3_isLike_2 9 rfl rfl)
theorem dX3_isLike_56 : decode cX3_isLike 56 = .ok (.iinc 3 1, 3) := dk_132 3 1 (dk_at dksX3_isLike_2 10 rfl rfl)
theorem dX3_isLike_59 : decode cX3_isLike 59 = .ok (.goto (-55), 3) := dk_167 255 201 (dk_at dksX3_isLike_2 13 rfl rfl)
theorem dX3_isLike_62 : decode cX3_isLike 62 = .ok (.iload_n 2, 1) := dk_28 (dk_at dksX3_isLike_2 16 rfl rfl)
theorem dX3_isLike_63 : decode cX3_isLike 63 = .ok (.ireturn, 1) := dk_172 (dk_at dksX3_isLike_2 17 rfl rfl)
abbrev cX1_steady : ByteArray := prog_1_method_34_code
def yX1_steady : MethodName := ⟨RX1, "steady", "()I"⟩
def dkwX1_steady_2 : List UInt8 := [153, 0, 5, 27, 172, 132, 1, 1, 167, 255, 216, 2, 172]
abbrev dktX1_steady_2 : List UInt8 := dkwX1_steady_2 ++ []
def dkwX1_steady_1 : List UInt8 := [42, 180, 0, 44, 182, 0, 224, 87, 42, 180, 0, 44, 182, 0, 237, 42, 180, 0, 47, 182, 0, 244]
abbrev dktX1_steady_1 : List UInt8 := dkwX1_steady_1 ++ dktX1_steady_2
def dkwX1_steady_0 : List UInt8 := [42, 180, 0, 44, 42, 180, 0, 40, 182, 0, 224, 87, 4, 60, 27, 16, 60, 163, 0, 40, 42, 180, 0, 47]
abbrev dktX1_steady_0 : List UInt8 := dkwX1_steady_0 ++ dktX1_steady_1
theorem dksX1_steady_0 : cX1_steady.data.toList.drop 0 = dktX1_steady_0 := by decide +kernel
theorem dksX1_steady_1 : cX1_steady.data.toList.drop 24 = dktX1_steady_1 := dk_seg dksX1_steady_0 24 rfl rfl
theorem dksX1_steady_2 : cX1_steady.data.toList.drop 46 = dktX1_steady_2 := dk_seg dksX1_steady_1 22 rfl rfl
theorem dX1_steady_0 : decode cX1_steady 0 = .ok (.aload_n 0, 1) := dk_42 (dk_at dksX1_steady_0 0 rfl rfl)
theorem dX1_steady_1 : decode cX1_steady 1 = .ok (.getfield 44, 3) := dk_180 0 44 (dk_at dksX1_steady_0 1 rfl rfl)
theorem dX1_steady_4 : decode cX1_steady 4 = .ok (.aload_n 0, 1) := dk_42 (dk_at dksX1_steady_0 4 rfl rfl)
theorem dX1_steady_5 : decode cX1_steady 5 = .ok (.getfield 40, 3) := dk_180 0 40 (dk_at dksX1_steady_0 5 rfl rfl)
theorem dX1_steady_8 : decode cX1_steady 8 = .ok (.invokevirtual 224, 3) := dk_182 0 224 (dk_at dksX1_steady_0 8 rfl rfl)
theorem dX1_steady_11 : decode cX1_steady 11 = .ok (.pop, 1) := dk_87 (dk_at dksX1_steady_0 11 rfl rfl)
theorem dX1_steady_12 : decode cX1_steady 12 = .ok (.iconst 1, 1) := dk_4 (dk_at dksX1_steady_0 12 rfl rfl)
theorem dX1_steady_13 : decode cX1_steady 13 = .ok (.istore_n 1, 1) := dk_60 (dk_at dksX1_steady_0 13 rfl rfl)
theorem dX1_steady_14 : decode cX1_steady 14 = .ok (.iload_n 1, 1) := dk_27 (dk_at dksX1_steady_0 14 rfl rfl)
theorem dX1_steady_15 : decode cX1_steady 15 = .ok (.bipush 60, 2) := dk_16 60 (dk_at dksX1_steady_0 15 rfl rfl)
theorem dX1_steady_17 : decode cX1_steady 17 = .ok (.if_icmp .gt 40, 3) := dk_163 0 40 (dk_at dksX1_steady_0 17 rfl rfl)
theorem dX1_steady_20 : decode cX1_steady 20 = .ok (.aload_n 0, 1) := dk_42 (dk_at dksX1_steady_0 20 rfl rfl)
theorem dX1_steady_21 : decode cX1_steady 21 = .ok (.getfield 47, 3) := dk_180 0 47 (dk_at dksX1_steady_0 21 rfl rfl)
theorem dX1_steady_24 : decode cX1_steady 24 = .ok (.aload_n 0, 1) := dk_42 (dk_at dksX1_steady_1 0 rfl rfl)
theorem dX1_steady_25 : decode cX1_steady 25 = .ok (.getfield 44, 3) := dk_180 0 44 (dk_at dksX1_steady_1 1 rfl rfl)
theorem dX1_steady_28 : decode cX1_steady 28 = .ok (.invokevirtual 224, 3) := dk_182 0 224 (dk_at dksX1_steady_1 4 rfl rfl)
theorem dX1_steady_31 : decode cX1_steady 31 = .ok (.pop, 1) := dk_87 (dk_at dksX1_steady_1 7 rfl rfl)
theorem dX1_steady_32 : decode cX1_steady 32 = .ok (.aload_n 0, 1) := dk_42 (dk_at dksX1_steady_1 8 rfl rfl)
theorem dX1_steady_33 : decode cX1_steady 33 = .ok (.getfield 44, 3) := dk_180 0 44 (dk_at dksX1_steady_1 9 rfl rfl)
theorem dX1_steady_36 : decode cX1_steady 36 = .ok (.invokevirtual 237, 3) := dk_182 0 237 (dk_at dksX1_steady_1 12 rfl rfl)
theorem dX1_steady_39 : decode cX1_steady 39 = .ok (.aload_n 0, 1) := dk_42 (dk_at dksX1_steady_1 15 rfl rfl)
theorem dX1_steady_40 : decode cX1_steady 40 = .ok (.getfield 47, 3) := dk_180 0 47 (dk_at dksX1_steady_1 16 rfl rfl)
theorem dX1_steady_43 : decode cX1_steady 43 = .ok (.invokevirtual 244, 3) := dk_182 0 244 (dk_at dksX1_steady_1 19 rfl rfl)
theorem dX1_steady_46 : decode cX1_steady 46 = .ok (.ifCond .eq 5, 3) := dk_153 0 5 (dk_at dksX1_steady_2 0 rfl rfl)
theorem dX1_steady_49 : decode cX1_steady 49 = .ok (.iload_n 1, 1) := dk_27 (dk_at dksX1_steady_2 3 rfl rfl)
theorem dX1_steady_50 : decode cX1_steady 50 = .ok (.ireturn, 1) := dk_172 (dk_at dksX1_steady_2 4 rfl rfl)
theorem dX1_steady_51 : decode cX1_steady 51 = .ok (.iinc 1 1, 3) := dk_132 1 1 (dk_at dksX1_steady_2 5 rfl rfl)
theorem dX1_steady_54 : decode cX1_steady 54 = .ok (.goto (-40), 3) := dk_167 255 216 (dk_at dksX1_steady_2 8 rfl rfl)
theorem dX1_steady_57 : decode cX1_steady 57 = .ok (.iconst (-1), 1) := dk_2 (dk_at dksX1_steady_2 11 rfl rfl)
theorem dX1_steady_58 : decode cX1_steady 58 = .ok (.ireturn, 1) := dk_172 (dk_at dksX1_steady_2 12 rfl rfl)
abbrev cX1_gaps : ByteArray := prog_1_method_48_code
def yX1_gaps : MethodName := ⟨RX1, "gaps", "()I"⟩
def dkwX1_gaps_3 : List UInt8 := [167, 0, 4, 27, 172]
abbrev dktX1_gaps_3 : List UInt8 := dkwX1_gaps_3 ++ []
def dkwX1_gaps_2 : List UInt8 := [132, 2, 1, 167, 255, 210, 27, 154, 0, 18, 42, 180, 0, 40, 3, 182, 0, 213, 153, 0, 7, 4]
abbrev dktX1_gaps_2 : List UInt8 := dkwX1_gaps_2 ++ dktX1_gaps_3
def dkwX1_gaps_1 : List UInt8 := [153, 0, 24, 42, 180, 0, 40, 42, 180, 0, 31, 28, 182, 1, 24, 182, 0, 213, 154, 0, 6, 132, 1, 1]
abbrev dktX1_gaps_1 : List UInt8 := dkwX1_gaps_1 ++ dktX1_gaps_2
def dkwX1_gaps_0 : List UInt8 := [3, 60, 3, 61, 28, 42, 180, 0, 31, 180, 0, 115, 162, 0, 41, 42, 180, 0, 40, 28, 182, 0, 213]
abbrev dktX1_gaps_0 : List UInt8 := dkwX1_gaps_0 ++ dktX1_gaps_1
theorem dksX1_gaps_0 : cX1_gaps.data.toList.drop 0 = dktX1_gaps_0 := by decide +kernel
theorem dksX1_gaps_1 : cX1_gaps.data.toList.drop 23 = dktX1_gaps_1 := dk_seg dksX1_gaps_0 23 rfl rfl
theorem dksX1_gaps_2 : cX1_gaps.data.toList.drop 47 = dktX1_gaps_2 := dk_seg dksX1_gaps_1 24 rfl rfl
theorem dksX1_gaps_3 : cX1_gaps.data.toList.drop 69 = dktX1_gaps_3 := dk_seg dksX1_gaps_2 22 rfl rfl
theorem dX1_gaps_0 : decode cX1_gaps 0 = .ok (.iconst 0, 1) := dk_3 (dk_at dksX1_gaps_0 0 rfl rfl)
theorem dX1_gaps_1 : decode cX1_gaps 1 = .ok (.istore_n 1, 1) := dk_60 (dk_at dksX1_gaps_0 1 rfl rfl)
theorem dX1_gaps_2 : decode cX1_gaps 2 = .ok (.iconst 0, 1) := dk_3 (dk_at dksX1_gaps_0 2 rfl rfl)
theorem dX1_gaps_3 : decode cX1_gaps 3 = .ok (.istore_n 2, 1) := dk_61 (dk_at dksX1_gaps_0 3 rfl rfl)
theorem dX1_gaps_4 : decode cX1_gaps 4 = .ok (.iload_n 2, 1) := dk_28 (dk_at dksX1_gaps_0 4 rfl rfl)
theorem dX1_gaps_5 : decode cX1_gaps 5 = .ok (.aload_n 0, 1) := dk_42 (dk_at dksX1_gaps_0 5 rfl rfl)
theorem dX1_gaps_6 : decode cX1_gaps 6 = .ok (.getfield 31, 3) := dk_180 0 31 (dk_at dksX1_gaps_0 6 rfl rfl)
theorem dX1_gaps_9 : decode cX1_gaps 9 = .ok (.getfield 115, 3) := dk_180 0 115 (dk_at dksX1_gaps_0 9 rfl rfl)
theorem dX1_gaps_12 : decode cX1_gaps 12 = .ok (.if_icmp .ge 41, 3) := dk_162 0 41 (dk_at dksX1_gaps_0 12 rfl rfl)
theorem dX1_gaps_15 : decode cX1_gaps 15 = .ok (.aload_n 0, 1) := dk_42 (dk_at dksX1_gaps_0 15 rfl rfl)
theorem dX1_gaps_16 : decode cX1_gaps 16 = .ok (.getfield 40, 3) := dk_180 0 40 (dk_at dksX1_gaps_0 16 rfl rfl)
theorem dX1_gaps_19 : decode cX1_gaps 19 = .ok (.iload_n 2, 1) := dk_28 (dk_at dksX1_gaps_0 19 rfl rfl)
theorem dX1_gaps_20 : decode cX1_gaps 20 = .ok (.invokevirtual 213, 3) := dk_182 0 213 (dk_at dksX1_gaps_0 20 rfl rfl)
theorem dX1_gaps_23 : decode cX1_gaps 23 = .ok (.ifCond .eq 24, 3) := dk_153 0 24 (dk_at dksX1_gaps_1 0 rfl rfl)
theorem dX1_gaps_26 : decode cX1_gaps 26 = .ok (.aload_n 0, 1) := dk_42 (dk_at dksX1_gaps_1 3 rfl rfl)
theorem dX1_gaps_27 : decode cX1_gaps 27 = .ok (.getfield 40, 3) := dk_180 0 40 (dk_at dksX1_gaps_1 4 rfl rfl)
theorem dX1_gaps_30 : decode cX1_gaps 30 = .ok (.aload_n 0, 1) := dk_42 (dk_at dksX1_gaps_1 7 rfl rfl)
theorem dX1_gaps_31 : decode cX1_gaps 31 = .ok (.getfield 31, 3) := dk_180 0 31 (dk_at dksX1_gaps_1 8 rfl rfl)
theorem dX1_gaps_34 : decode cX1_gaps 34 = .ok (.iload_n 2, 1) := dk_28 (dk_at dksX1_gaps_1 11 rfl rfl)
theorem dX1_gaps_35 : decode cX1_gaps 35 = .ok (.invokevirtual 280, 3) := dk_182 1 24 (dk_at dksX1_gaps_1 12 rfl rfl)
theorem dX1_gaps_38 : decode cX1_gaps 38 = .ok (.invokevirtual 213, 3) := dk_182 0 213 (dk_at dksX1_gaps_1 15 rfl rfl)
theorem dX1_gaps_41 : decode cX1_gaps 41 = .ok (.ifCond .ne 6, 3) := dk_154 0 6 (dk_at dksX1_gaps_1 18 rfl rfl)
theorem dX1_gaps_44 : decode cX1_gaps 44 = .ok (.iinc 1 1, 3) := dk_132 1 1 (dk_at dksX1_gaps_1 21 rfl rfl)
theorem dX1_gaps_47 : decode cX1_gaps 47 = .ok (.iinc 2 1, 3) := dk_132 2 1 (dk_at dksX1_gaps_2 0 rfl rfl)
theorem dX1_gaps_50 : decode cX1_gaps 50 = .ok (.goto (-46), 3) := dk_167 255 210 (dk_at dksX1_gaps_2 3 rfl rfl)
theorem dX1_gaps_53 : decode cX1_gaps 53 = .ok (.iload_n 1, 1) := dk_27 (dk_at dksX1_gaps_2 6 rfl rfl)
theorem dX1_gaps_54 : decode cX1_gaps 54 = .ok (.ifCond .ne 18, 3) := dk_154 0 18 (dk_at dksX1_gaps_2 7 rfl rfl)
theorem dX1_gaps_57 : decode cX1_gaps 57 = .ok (.aload_n 0, 1) := dk_42 (dk_at dksX1_gaps_2 10 rfl rfl)
theorem dX1_gaps_58 : decode cX1_gaps 58 = .ok (.getfield 40, 3) := dk_180 0 40 (dk_at dksX1_gaps_2 11 rfl rfl)
theorem dX1_gaps_61 : decode cX1_gaps 61 = .ok (.iconst 0, 1) := dk_3 (dk_at dksX1_gaps_2 14 rfl rfl)
theorem dX1_gaps_62 : decode cX1_gaps 62 = .ok (.invokevirtual 213, 3) := dk_182 0 213 (dk_at dksX1_gaps_2 15 rfl rfl)
theorem dX1_gaps_65 : decode cX1_gaps 65 = .ok (.ifCond .eq 7, 3) := dk_153 0 7 (dk_at dksX1_gaps_2 18 rfl rfl)
theorem dX1_gaps_68 : decode cX1_gaps 68 = .ok (.iconst 1, 1) := dk_4 (dk_at dksX1_gaps_2 21 rfl rfl)
theorem dX1_gaps_69 : decode cX1_gaps 69 = .ok (.goto 4, 3) := dk_167 0 4 (dk_at dksX1_gaps_3 0 rfl rfl)
theorem dX1_gaps_72 : decode cX1_gaps 72 = .ok (.iload_n 1, 1) := dk_27 (dk_at dksX1_gaps_3 3 rfl rfl)
theorem dX1_gaps_73 : decode cX1_gaps 73 = .ok (.ireturn, 1) := dk_172 (dk_at dksX1_gaps_3 4 rfl rfl)
abbrev cX1_right : ByteArray := prog_1_method_3_code
def yX1_right : MethodName := ⟨RX1, "right", "(Z)V"⟩
def dkwX1_right_0 : List UInt8 := [26, 154, 0, 11, 187, 0, 7, 89, 183, 0, 9, 191, 177]
abbrev dktX1_right_0 : List UInt8 := dkwX1_right_0 ++ []
theorem dksX1_right_0 : cX1_right.data.toList.drop 0 = dktX1_right_0 := by decide +kernel
theorem dX1_right_0 : decode cX1_right 0 = .ok (.iload_n 0, 1) := dk_26 (dk_at dksX1_right_0 0 rfl rfl)
theorem dX1_right_1 : decode cX1_right 1 = .ok (.ifCond .ne 11, 3) := dk_154 0 11 (dk_at dksX1_right_0 1 rfl rfl)
theorem dX1_right_4 : decode cX1_right 4 = .ok (.new 7, 3) := dk_187 0 7 (dk_at dksX1_right_0 4 rfl rfl)
theorem dX1_right_7 : decode cX1_right 7 = .ok (.dup, 1) := dk_89 (dk_at dksX1_right_0 7 rfl rfl)
theorem dX1_right_8 : decode cX1_right 8 = .ok (.invokespecial 9, 3) := dk_183 0 9 (dk_at dksX1_right_0 8 rfl rfl)
theorem dX1_right_11 : decode cX1_right 11 = .ok (.athrow, 1) := dk_191 (dk_at dksX1_right_0 11 rfl rfl)
theorem dX1_right_12 : decode cX1_right 12 = .ok (.return_, 1) := dk_177 (dk_at dksX1_right_0 12 rfl rfl)
abbrev cX1_isOf : ByteArray := prog_1_method_4_code
def yX1_isOf : MethodName := ⟨RX1, "isOf", "(II)Z"⟩
def dkwX1_isOf_0 : List UInt8 := [26, 27, 122, 4, 126, 4, 160, 0, 7, 4, 167, 0, 4, 3, 172]
abbrev dktX1_isOf_0 : List UInt8 := dkwX1_isOf_0 ++ []
theorem dksX1_isOf_0 : cX1_isOf.data.toList.drop 0 = dktX1_isOf_0 := by decide +kernel
theorem dX1_isOf_0 : decode cX1_isOf 0 = .ok (.iload_n 0, 1) := dk_26 (dk_at dksX1_isOf_0 0 rfl rfl)
theorem dX1_isOf_1 : decode cX1_isOf 1 = .ok (.iload_n 1, 1) := dk_27 (dk_at dksX1_isOf_0 1 rfl rfl)
theorem dX1_isOf_2 : decode cX1_isOf 2 = .ok (.ishr, 1) := dk_122 (dk_at dksX1_isOf_0 2 rfl rfl)
theorem dX1_isOf_3 : decode cX1_isOf 3 = .ok (.iconst 1, 1) := dk_4 (dk_at dksX1_isOf_0 3 rfl rfl)
theorem dX1_isOf_4 : decode cX1_isOf 4 = .ok (.iand, 1) := dk_126 (dk_at dksX1_isOf_0 4 rfl rfl)
theorem dX1_isOf_5 : decode cX1_isOf 5 = .ok (.iconst 1, 1) := dk_4 (dk_at dksX1_isOf_0 5 rfl rfl)
theorem dX1_isOf_6 : decode cX1_isOf 6 = .ok (.if_icmp .ne 7, 3) := dk_160 0 7 (dk_at dksX1_isOf_0 6 rfl rfl)
theorem dX1_isOf_9 : decode cX1_isOf 9 = .ok (.iconst 1, 1) := dk_4 (dk_at dksX1_isOf_0 9 rfl rfl)
theorem dX1_isOf_10 : decode cX1_isOf 10 = .ok (.goto 4, 3) := dk_167 0 4 (dk_at dksX1_isOf_0 10 rfl rfl)
theorem dX1_isOf_13 : decode cX1_isOf 13 = .ok (.iconst 0, 1) := dk_3 (dk_at dksX1_isOf_0 13 rfl rfl)
theorem dX1_isOf_14 : decode cX1_isOf 14 = .ok (.ireturn, 1) := dk_172 (dk_at dksX1_isOf_0 14 rfl rfl)
abbrev cX1_found : ByteArray := prog_1_method_2_code
def yX1_found : MethodName := ⟨RX1, "found", "(Z)V"⟩
def dkwX1_found_0 : List UInt8 := [26, 154, 0, 11, 187, 0, 1, 89, 183, 0, 3, 191, 177]
abbrev dktX1_found_0 : List UInt8 := dkwX1_found_0 ++ []
theorem dksX1_found_0 : cX1_found.data.toList.drop 0 = dktX1_found_0 := by decide +kernel
theorem dX1_found_0 : decode cX1_found 0 = .ok (.iload_n 0, 1) := dk_26 (dk_at dksX1_found_0 0 rfl rfl)
theorem dX1_found_1 : decode cX1_found 1 = .ok (.ifCond .ne 11, 3) := dk_154 0 11 (dk_at dksX1_found_0 1 rfl rfl)
theorem dX1_found_4 : decode cX1_found 4 = .ok (.new 1, 3) := dk_187 0 1 (dk_at dksX1_found_0 4 rfl rfl)
theorem dX1_found_7 : decode cX1_found 7 = .ok (.dup, 1) := dk_89 (dk_at dksX1_found_0 7 rfl rfl)
theorem dX1_found_8 : decode cX1_found 8 = .ok (.invokespecial 3, 3) := dk_183 0 3 (dk_at dksX1_found_0 8 rfl rfl)
theorem dX1_found_11 : decode cX1_found 11 = .ok (.athrow, 1) := dk_191 (dk_at dksX1_found_0 11 rfl rfl)
theorem dX1_found_12 : decode cX1_found 12 = .ok (.return_, 1) := dk_177 (dk_at dksX1_found_0 12 rfl rfl)
abbrev cX1_idle : ByteArray := prog_1_method_10_code
def yX1_idle : MethodName := ⟨RX1, "idle", "()I"⟩
def dkwX1_idle_2 : List UInt8 := [126, 153, 0, 9, 27, 4, 28, 120, 128, 60, 132, 2, 1, 167, 255, 199, 27, 172]
abbrev dktX1_idle_2 : List UInt8 := dkwX1_idle_2 ++ []
def dkwX1_idle_1 : List UInt8 := [153, 0, 28, 42, 180, 0, 40, 42, 180, 0, 40, 180, 0, 108, 28, 46, 182, 0, 111, 4, 28, 120, 4, 100]
abbrev dktX1_idle_1 : List UInt8 := dkwX1_idle_1 ++ dktX1_idle_2
def dkwX1_idle_0 : List UInt8 := [3, 60, 3, 61, 28, 42, 180, 0, 31, 182, 0, 101, 162, 0, 52, 42, 180, 0, 40, 180, 0, 105, 28, 46]
abbrev dktX1_idle_0 : List UInt8 := dkwX1_idle_0 ++ dktX1_idle_1
theorem dksX1_idle_0 : cX1_idle.data.toList.drop 0 = dktX1_idle_0 := by decide +kernel
theorem dksX1_idle_1 : cX1_idle.data.toList.drop 24 = dktX1_idle_1 := dk_seg dksX1_idle_0 24 rfl rfl
theorem dksX1_idle_2 : cX1_idle.data.toList.drop 48 = dktX1_idle_2 := dk_seg dksX1_idle_1 24 rfl rfl
theorem dX1_idle_0 : decode cX1_idle 0 = .ok (.iconst 0, 1) := dk_3 (dk_at dksX1_idle_0 0 rfl rfl)
theorem dX1_idle_1 : decode cX1_idle 1 = .ok (.istore_n 1, 1) := dk_60 (dk_at dksX1_idle_0 1 rfl rfl)
theorem dX1_idle_2 : decode cX1_idle 2 = .ok (.iconst 0, 1) := dk_3 (dk_at dksX1_idle_0 2 rfl rfl)
theorem dX1_idle_3 : decode cX1_idle 3 = .ok (.istore_n 2, 1) := dk_61 (dk_at dksX1_idle_0 3 rfl rfl)
theorem dX1_idle_4 : decode cX1_idle 4 = .ok (.iload_n 2, 1) := dk_28 (dk_at dksX1_idle_0 4 rfl rfl)
theorem dX1_idle_5 : decode cX1_idle 5 = .ok (.aload_n 0, 1) := dk_42 (dk_at dksX1_idle_0 5 rfl rfl)
theorem dX1_idle_6 : decode cX1_idle 6 = .ok (.getfield 31, 3) := dk_180 0 31 (dk_at dksX1_idle_0 6 rfl rfl)
theorem dX1_idle_9 : decode cX1_idle 9 = .ok (.invokevirtual 101, 3) := dk_182 0 101 (dk_at dksX1_idle_0 9 rfl rfl)
theorem dX1_idle_12 : decode cX1_idle 12 = .ok (.if_icmp .ge 52, 3) := dk_162 0 52 (dk_at dksX1_idle_0 12 rfl rfl)
theorem dX1_idle_15 : decode cX1_idle 15 = .ok (.aload_n 0, 1) := dk_42 (dk_at dksX1_idle_0 15 rfl rfl)
theorem dX1_idle_16 : decode cX1_idle 16 = .ok (.getfield 40, 3) := dk_180 0 40 (dk_at dksX1_idle_0 16 rfl rfl)
theorem dX1_idle_19 : decode cX1_idle 19 = .ok (.getfield 105, 3) := dk_180 0 105 (dk_at dksX1_idle_0 19 rfl rfl)
theorem dX1_idle_22 : decode cX1_idle 22 = .ok (.iload_n 2, 1) := dk_28 (dk_at dksX1_idle_0 22 rfl rfl)
theorem dX1_idle_23 : decode cX1_idle 23 = .ok (.iaload, 1) := dk_46 (dk_at dksX1_idle_0 23 rfl rfl)
theorem dX1_idle_24 : decode cX1_idle 24 = .ok (.ifCond .eq 28, 3) := dk_153 0 28 (dk_at dksX1_idle_1 0 rfl rfl)
theorem dX1_idle_27 : decode cX1_idle 27 = .ok (.aload_n 0, 1) := dk_42 (dk_at dksX1_idle_1 3 rfl rfl)
theorem dX1_idle_28 : decode cX1_idle 28 = .ok (.getfield 40, 3) := dk_180 0 40 (dk_at dksX1_idle_1 4 rfl rfl)
theorem dX1_idle_31 : decode cX1_idle 31 = .ok (.aload_n 0, 1) := dk_42 (dk_at dksX1_idle_1 7 rfl rfl)
theorem dX1_idle_32 : decode cX1_idle 32 = .ok (.getfield 40, 3) := dk_180 0 40 (dk_at dksX1_idle_1 8 rfl rfl)
theorem dX1_idle_35 : decode cX1_idle 35 = .ok (.getfield 108, 3) := dk_180 0 108 (dk_at dksX1_idle_1 11 rfl rfl)
theorem dX1_idle_38 : decode cX1_idle 38 = .ok (.iload_n 2, 1) := dk_28 (dk_at dksX1_idle_1 14 rfl rfl)
theorem dX1_idle_39 : decode cX1_idle 39 = .ok (.iaload, 1) := dk_46 (dk_at dksX1_idle_1 15 rfl rfl)
theorem dX1_idle_40 : decode cX1_idle 40 = .ok (.invokevirtual 111, 3) := dk_182 0 111 (dk_at dksX1_idle_1 16 rfl rfl)
theorem dX1_idle_43 : decode cX1_idle 43 = .ok (.iconst 1, 1) := dk_4 (dk_at dksX1_idle_1 19 rfl rfl)
theorem dX1_idle_44 : decode cX1_idle 44 = .ok (.iload_n 2, 1) := dk_28 (dk_at dksX1_idle_1 20 rfl rfl)
theorem dX1_idle_45 : decode cX1_idle 45 = .ok (.ishl, 1) := dk_120 (dk_at dksX1_idle_1 21 rfl rfl)
theorem dX1_idle_46 : decode cX1_idle 46 = .ok (.iconst 1, 1) := dk_4 (dk_at dksX1_idle_1 22 rfl rfl)
theorem dX1_idle_47 : decode cX1_idle 47 = .ok (.isub, 1) := dk_100 (dk_at dksX1_idle_1 23 rfl rfl)
theorem dX1_idle_48 : decode cX1_idle 48 = .ok (.iand, 1) := dk_126 (dk_at dksX1_idle_2 0 rfl rfl)
theorem dX1_idle_49 : decode cX1_idle 49 = .ok (.ifCond .eq 9, 3) := dk_153 0 9 (dk_at dksX1_idle_2 1 rfl rfl)
theorem dX1_idle_52 : decode cX1_idle 52 = .ok (.iload_n 1, 1) := dk_27 (dk_at dksX1_idle_2 4 rfl rfl)
theorem dX1_idle_53 : decode cX1_idle 53 = .ok (.iconst 1, 1) := dk_4 (dk_at dksX1_idle_2 5 rfl rfl)
theorem dX1_idle_54 : decode cX1_idle 54 = .ok (.iload_n 2, 1) := dk_28 (dk_at dksX1_idle_2 6 rfl rfl)
theorem dX1_idle_55 : decode cX1_idle 55 = .ok (.ishl, 1) := dk_120 (dk_at dksX1_idle_2 7 rfl rfl)
theorem dX1_idle_56 : decode cX1_idle 56 = .ok (.ior, 1) := dk_128 (dk_at dksX1_idle_2 8 rfl rfl)
theorem dX1_idle_57 : decode cX1_idle 57 = .ok (.istore_n 1, 1) := dk_60 (dk_at dksX1_idle_2 9 rfl rfl)
theorem dX1_idle_58 : decode cX1_idle 58 = .ok (.iinc 2 1, 3) := dk_132 2 1 (dk_at dksX1_idle_2 10 rfl rfl)
theorem dX1_idle_61 : decode cX1_idle 61 = .ok (.goto (-57), 3) := dk_167 255 199 (dk_at dksX1_idle_2 13 rfl rfl)
theorem dX1_idle_64 : decode cX1_idle 64 = .ok (.iload_n 1, 1) := dk_27 (dk_at dksX1_idle_2 16 rfl rfl)
theorem dX1_idle_65 : decode cX1_idle 65 = .ok (.ireturn, 1) := dk_172 (dk_at dksX1_idle_2 17 rfl rfl)
abbrev cX3_allSeam : ByteArray := prog_4_method_18_code
def yX3_allSeam : MethodName := ⟨RX3, "allSeam", "()I"⟩
def dkwX3_allSeam_1 : List UInt8 := [46, 96, 60, 132, 2, 1, 167, 255, 230, 27, 172]
abbrev dktX3_allSeam_1 : List UInt8 := dkwX3_allSeam_1 ++ []
def dkwX3_allSeam_0 : List UInt8 := [3, 60, 3, 61, 28, 42, 180, 0, 3, 180, 0, 45, 180, 0, 127, 162, 0, 18, 27, 42, 180, 0, 19, 28]
abbrev dktX3_allSeam_0 : List UInt8 := dkwX3_allSeam_0 ++ dktX3_allSeam_1
theorem dksX3_allSeam_0 : cX3_allSeam.data.toList.drop 0 = dktX3_allSeam_0 := by decide +kernel
theorem dksX3_allSeam_1 : cX3_allSeam.data.toList.drop 24 = dktX3_allSeam_1 := dk_seg dksX3_allSeam_0 24 rfl rfl
theorem dX3_allSeam_0 : decode cX3_allSeam 0 = .ok (.iconst 0, 1) := dk_3 (dk_at dksX3_allSeam_0 0 rfl rfl)
theorem dX3_allSeam_1 : decode cX3_allSeam 1 = .ok (.istore_n 1, 1) := dk_60 (dk_at dksX3_allSeam_0 1 rfl rfl)
theorem dX3_allSeam_2 : decode cX3_allSeam 2 = .ok (.iconst 0, 1) := dk_3 (dk_at dksX3_allSeam_0 2 rfl rfl)
theorem dX3_allSeam_3 : decode cX3_allSeam 3 = .ok (.istore_n 2, 1) := dk_61 (dk_at dksX3_allSeam_0 3 rfl rfl)
theorem dX3_allSeam_4 : decode cX3_allSeam 4 = .ok (.iload_n 2, 1) := dk_28 (dk_at dksX3_allSeam_0 4 rfl rfl)
theorem dX3_allSeam_5 : decode cX3_allSeam 5 = .ok (.aload_n 0, 1) := dk_42 (dk_at dksX3_allSeam_0 5 rfl rfl)
theorem dX3_allSeam_6 : decode cX3_allSeam 6 = .ok (.getfield 3, 3) := dk_180 0 3 (dk_at dksX3_allSeam_0 6 rfl rfl)
theorem dX3_allSeam_9 : decode cX3_allSeam 9 = .ok (.getfield 45, 3) := dk_180 0 45 (dk_at dksX3_allSeam_0 9 rfl rfl)
theorem dX3_allSeam_12 : decode cX3_allSeam 12 = .ok (.getfield 127, 3) := dk_180 0 127 (dk_at dksX3_allSeam_0 12 rfl rfl)
theorem dX3_allSeam_15 : decode cX3_allSeam 15 = .ok (.if_icmp .ge 18, 3) := dk_162 0 18 (dk_at dksX3_allSeam_0 15 rfl rfl)
theorem dX3_allSeam_18 : decode cX3_allSeam 18 = .ok (.iload_n 1, 1) := dk_27 (dk_at dksX3_allSeam_0 18 rfl rfl)
theorem dX3_allSeam_19 : decode cX3_allSeam 19 = .ok (.aload_n 0, 1) := dk_42 (dk_at dksX3_allSeam_0 19 rfl rfl)
theorem dX3_allSeam_20 : decode cX3_allSeam 20 = .ok (.getfield 19, 3) := dk_180 0 19 (dk_at dksX3_allSeam_0 20 rfl rfl)
theorem dX3_allSeam_23 : decode cX3_allSeam 23 = .ok (.iload_n 2, 1) := dk_28 (dk_at dksX3_allSeam_0 23 rfl rfl)
theorem dX3_allSeam_24 : decode cX3_allSeam 24 = .ok (.iaload, 1) := dk_46 (dk_at dksX3_allSeam_1 0 rfl rfl)
theorem dX3_allSeam_25 : decode cX3_allSeam 25 = .ok (.iadd, 1) := dk_96 (dk_at dksX3_allSeam_1 1 rfl rfl)
theorem dX3_allSeam_26 : decode cX3_allSeam 26 = .ok (.istore_n 1, 1) := dk_60 (dk_at dksX3_allSeam_1 2 rfl rfl)
theorem dX3_allSeam_27 : decode cX3_allSeam 27 = .ok (.iinc 2 1, 3) := dk_132 2 1 (dk_at dksX3_allSeam_1 3 rfl rfl)
theorem dX3_allSeam_30 : decode cX3_allSeam 30 = .ok (.goto (-26), 3) := dk_167 255 230 (dk_at dksX3_allSeam_1 6 rfl rfl)
theorem dX3_allSeam_33 : decode cX3_allSeam 33 = .ok (.iload_n 1, 1) := dk_27 (dk_at dksX3_allSeam_1 9 rfl rfl)
theorem dX3_allSeam_34 : decode cX3_allSeam 34 = .ok (.ireturn, 1) := dk_172 (dk_at dksX3_allSeam_1 10 rfl rfl)
abbrev cX3_open : ByteArray := prog_4_method_16_code
def yX3_open : MethodName := ⟨RX3, "open", "()I"⟩
def dkwX3_open_1 : List UInt8 := [153, 0, 9, 27, 4, 28, 120, 128, 60, 132, 2, 1, 167, 255, 225, 27, 172]
abbrev dktX3_open_1 : List UInt8 := dkwX3_open_1 ++ []
def dkwX3_open_0 : List UInt8 := [3, 60, 3, 61, 28, 42, 180, 0, 3, 180, 0, 45, 180, 0, 127, 162, 0, 23, 42, 28, 182, 0, 82]
abbrev dktX3_open_0 : List UInt8 := dkwX3_open_0 ++ dktX3_open_1
theorem dksX3_open_0 : cX3_open.data.toList.drop 0 = dktX3_open_0 := by decide +kernel
theorem dksX3_open_1 : cX3_open.data.toList.drop 23 = dktX3_open_1 := dk_seg dksX3_open_0 23 rfl rfl
theorem dX3_open_0 : decode cX3_open 0 = .ok (.iconst 0, 1) := dk_3 (dk_at dksX3_open_0 0 rfl rfl)
theorem dX3_open_1 : decode cX3_open 1 = .ok (.istore_n 1, 1) := dk_60 (dk_at dksX3_open_0 1 rfl rfl)
theorem dX3_open_2 : decode cX3_open 2 = .ok (.iconst 0, 1) := dk_3 (dk_at dksX3_open_0 2 rfl rfl)
theorem dX3_open_3 : decode cX3_open 3 = .ok (.istore_n 2, 1) := dk_61 (dk_at dksX3_open_0 3 rfl rfl)
theorem dX3_open_4 : decode cX3_open 4 = .ok (.iload_n 2, 1) := dk_28 (dk_at dksX3_open_0 4 rfl rfl)
theorem dX3_open_5 : decode cX3_open 5 = .ok (.aload_n 0, 1) := dk_42 (dk_at dksX3_open_0 5 rfl rfl)
theorem dX3_open_6 : decode cX3_open 6 = .ok (.getfield 3, 3) := dk_180 0 3 (dk_at dksX3_open_0 6 rfl rfl)
theorem dX3_open_9 : decode cX3_open 9 = .ok (.getfield 45, 3) := dk_180 0 45 (dk_at dksX3_open_0 9 rfl rfl)
theorem dX3_open_12 : decode cX3_open 12 = .ok (.getfield 127, 3) := dk_180 0 127 (dk_at dksX3_open_0 12 rfl rfl)
theorem dX3_open_15 : decode cX3_open 15 = .ok (.if_icmp .ge 23, 3) := dk_162 0 23 (dk_at dksX3_open_0 15 rfl rfl)
theorem dX3_open_18 : decode cX3_open 18 = .ok (.aload_n 0, 1) := dk_42 (dk_at dksX3_open_0 18 rfl rfl)
theorem dX3_open_19 : decode cX3_open 19 = .ok (.iload_n 2, 1) := dk_28 (dk_at dksX3_open_0 19 rfl rfl)
theorem dX3_open_20 : decode cX3_open 20 = .ok (.invokevirtual 82, 3) := dk_182 0 82 (dk_at dksX3_open_0 20 rfl rfl)
theorem dX3_open_23 : decode cX3_open 23 = .ok (.ifCond .eq 9, 3) := dk_153 0 9 (dk_at dksX3_open_1 0 rfl rfl)
theorem dX3_open_26 : decode cX3_open 26 = .ok (.iload_n 1, 1) := dk_27 (dk_at dksX3_open_1 3 rfl rfl)
theorem dX3_open_27 : decode cX3_open 27 = .ok (.iconst 1, 1) := dk_4 (dk_at dksX3_open_1 4 rfl rfl)
theorem dX3_open_28 : decode cX3_open 28 = .ok (.iload_n 2, 1) := dk_28 (dk_at dksX3_open_1 5 rfl rfl)
theorem dX3_open_29 : decode cX3_open 29 = .ok (.ishl, 1) := dk_120 (dk_at dksX3_open_1 6 rfl rfl)
theorem dX3_open_30 : decode cX3_open 30 = .ok (.ior, 1) := dk_128 (dk_at dksX3_open_1 7 rfl rfl)
theorem dX3_open_31 : decode cX3_open 31 = .ok (.istore_n 1, 1) := dk_60 (dk_at dksX3_open_1 8 rfl rfl)
theorem dX3_open_32 : decode cX3_open 32 = .ok (.iinc 2 1, 3) := dk_132 2 1 (dk_at dksX3_open_1 9 rfl rfl)
theorem dX3_open_35 : decode cX3_open 35 = .ok (.goto (-31), 3) := dk_167 255 225 (dk_at dksX3_open_1 12 rfl rfl)
theorem dX3_open_38 : decode cX3_open 38 = .ok (.iload_n 1, 1) := dk_27 (dk_at dksX3_open_1 15 rfl rfl)
theorem dX3_open_39 : decode cX3_open 39 = .ok (.ireturn, 1) := dk_172 (dk_at dksX3_open_1 16 rfl rfl)
abbrev cX1_count : ByteArray := prog_1_method_11_code
def yX1_count : MethodName := ⟨RX1, "count", "(I)I"⟩
def dkwX1_count_7 : List UInt8 := [46, 172]
abbrev dktX1_count_7 : List UInt8 := dkwX1_count_7 ++ []
def dkwX1_count_6 : List UInt8 := [42, 180, 0, 71, 172, 27, 16, 12, 16, 14, 184, 0, 144, 184, 0, 148, 42, 180, 0, 58, 27, 16, 12, 100]
abbrev dktX1_count_6 : List UInt8 := dkwX1_count_6 ++ dktX1_count_7
def dkwX1_count_5 : List UInt8 := [182, 0, 141, 172, 42, 180, 0, 64, 185, 0, 121, 1, 0, 172, 42, 180, 0, 68, 185, 0, 121, 1, 0, 172]
abbrev dktX1_count_5 : List UInt8 := dkwX1_count_5 ++ dktX1_count_6
def dkwX1_count_4 : List UInt8 := [180, 0, 40, 182, 0, 132, 172, 42, 180, 0, 40, 182, 0, 135, 172, 42, 180, 0, 40, 182, 0, 138, 172, 42]
abbrev dktX1_count_4 : List UInt8 := dkwX1_count_4 ++ dktX1_count_5
def dkwX1_count_3 : List UInt8 := [185, 0, 121, 1, 0, 172, 42, 180, 0, 31, 180, 0, 126, 172, 42, 180, 0, 40, 180, 0, 129, 172, 42]
abbrev dktX1_count_3 : List UInt8 := dkwX1_count_3 ++ dktX1_count_4
def dkwX1_count_2 : List UInt8 := [42, 180, 0, 31, 180, 0, 115, 172, 42, 180, 0, 31, 182, 0, 101, 172, 42, 180, 0, 31, 180, 0, 118]
abbrev dktX1_count_2 : List UInt8 := dkwX1_count_2 ++ dktX1_count_3
def dkwX1_count_1 : List UInt8 := [170, 0, 0, 0, 0, 0, 162, 0, 0, 0, 0, 0, 0, 0, 11, 0, 0, 0, 63, 0, 0, 0, 71, 0, 0, 0, 79, 0, 0, 0, 92, 0, 0, 0, 100, 0, 0, 0, 108, 0, 0, 0, 116, 0, 0, 0, 124, 0, 0, 0, 132, 0, 0, 0, 137, 0, 0, 0, 147, 0, 0, 0, 157]
abbrev dktX1_count_1 : List UInt8 := dkwX1_count_1 ++ dktX1_count_2
def dkwX1_count_0 : List UInt8 := [27]
abbrev dktX1_count_0 : List UInt8 := dkwX1_count_0 ++ dktX1_count_1
theorem dksX1_count_0 : cX1_count.data.toList.drop 0 = dktX1_count_0 := by decide +kernel
theorem dksX1_count_1 : cX1_count.data.toList.drop 1 = dktX1_count_1 := dk_seg dksX1_count_0 1 rfl rfl
theorem dksX1_count_2 : cX1_count.data.toList.drop 64 = dktX1_count_2 := dk_seg dksX1_count_1 63 rfl rfl
theorem dksX1_count_3 : cX1_count.data.toList.drop 87 = dktX1_count_3 := dk_seg dksX1_count_2 23 rfl rfl
theorem dksX1_count_4 : cX1_count.data.toList.drop 110 = dktX1_count_4 := dk_seg dksX1_count_3 23 rfl rfl
theorem dksX1_count_5 : cX1_count.data.toList.drop 134 = dktX1_count_5 := dk_seg dksX1_count_4 24 rfl rfl
theorem dksX1_count_6 : cX1_count.data.toList.drop 158 = dktX1_count_6 := dk_seg dksX1_count_5 24 rfl rfl
theorem dksX1_count_7 : cX1_count.data.toList.drop 182 = dktX1_count_7 := dk_seg dksX1_count_6 24 rfl rfl
theorem dX1_count_0 : decode cX1_count 0 = .ok (.iload_n 1, 1) := dk_27 (dk_at dksX1_count_0 0 rfl rfl)
theorem dX1_count_1 : decode cX1_count 1 = .ok (.tableswitch 162 0 11 #[63, 71, 79, 92, 100, 108, 116, 124, 132, 137, 147, 157], 63) := by decide +kernel
theorem dX1_count_64 : decode cX1_count 64 = .ok (.aload_n 0, 1) := dk_42 (dk_at dksX1_count_2 0 rfl rfl)
theorem dX1_count_65 : decode cX1_count 65 = .ok (.getfield 31, 3) := dk_180 0 31 (dk_at dksX1_count_2 1 rfl rfl)
theorem dX1_count_68 : decode cX1_count 68 = .ok (.getfield 115, 3) := dk_180 0 115 (dk_at dksX1_count_2 4 rfl rfl)
theorem dX1_count_71 : decode cX1_count 71 = .ok (.ireturn, 1) := dk_172 (dk_at dksX1_count_2 7 rfl rfl)
theorem dX1_count_72 : decode cX1_count 72 = .ok (.aload_n 0, 1) := dk_42 (dk_at dksX1_count_2 8 rfl rfl)
theorem dX1_count_73 : decode cX1_count 73 = .ok (.getfield 31, 3) := dk_180 0 31 (dk_at dksX1_count_2 9 rfl rfl)
theorem dX1_count_76 : decode cX1_count 76 = .ok (.invokevirtual 101, 3) := dk_182 0 101 (dk_at dksX1_count_2 12 rfl rfl)
theorem dX1_count_79 : decode cX1_count 79 = .ok (.ireturn, 1) := dk_172 (dk_at dksX1_count_2 15 rfl rfl)
theorem dX1_count_80 : decode cX1_count 80 = .ok (.aload_n 0, 1) := dk_42 (dk_at dksX1_count_2 16 rfl rfl)
theorem dX1_count_81 : decode cX1_count 81 = .ok (.getfield 31, 3) := dk_180 0 31 (dk_at dksX1_count_2 17 rfl rfl)
theorem dX1_count_84 : decode cX1_count 84 = .ok (.getfield 118, 3) := dk_180 0 118 (dk_at dksX1_count_2 20 rfl rfl)
theorem dX1_count_87 : decode cX1_count 87 = .ok (.invokeinterface 121 1, 5) := by decide +kernel
theorem dX1_count_92 : decode cX1_count 92 = .ok (.ireturn, 1) := dk_172 (dk_at dksX1_count_3 5 rfl rfl)
theorem dX1_count_93 : decode cX1_count 93 = .ok (.aload_n 0, 1) := dk_42 (dk_at dksX1_count_3 6 rfl rfl)
theorem dX1_count_94 : decode cX1_count 94 = .ok (.getfield 31, 3) := dk_180 0 31 (dk_at dksX1_count_3 7 rfl rfl)
theorem dX1_count_97 : decode cX1_count 97 = .ok (.getfield 126, 3) := dk_180 0 126 (dk_at dksX1_count_3 10 rfl rfl)
theorem dX1_count_100 : decode cX1_count 100 = .ok (.ireturn, 1) := dk_172 (dk_at dksX1_count_3 13 rfl rfl)
theorem dX1_count_101 : decode cX1_count 101 = .ok (.aload_n 0, 1) := dk_42 (dk_at dksX1_count_3 14 rfl rfl)
theorem dX1_count_102 : decode cX1_count 102 = .ok (.getfield 40, 3) := dk_180 0 40 (dk_at dksX1_count_3 15 rfl rfl)
theorem dX1_count_105 : decode cX1_count 105 = .ok (.getfield 129, 3) := dk_180 0 129 (dk_at dksX1_count_3 18 rfl rfl)
theorem dX1_count_108 : decode cX1_count 108 = .ok (.ireturn, 1) := dk_172 (dk_at dksX1_count_3 21 rfl rfl)
theorem dX1_count_109 : decode cX1_count 109 = .ok (.aload_n 0, 1) := dk_42 (dk_at dksX1_count_3 22 rfl rfl)
theorem dX1_count_110 : decode cX1_count 110 = .ok (.getfield 40, 3) := dk_180 0 40 (dk_at dksX1_count_4 0 rfl rfl)
theorem dX1_count_113 : decode cX1_count 113 = .ok (.invokevirtual 132, 3) := dk_182 0 132 (dk_at dksX1_count_4 3 rfl rfl)
theorem dX1_count_116 : decode cX1_count 116 = .ok (.ireturn, 1) := dk_172 (dk_at dksX1_count_4 6 rfl rfl)
theorem dX1_count_117 : decode cX1_count 117 = .ok (.aload_n 0, 1) := dk_42 (dk_at dksX1_count_4 7 rfl rfl)
theorem dX1_count_118 : decode cX1_count 118 = .ok (.getfield 40, 3) := dk_180 0 40 (dk_at dksX1_count_4 8 rfl rfl)
theorem dX1_count_121 : decode cX1_count 121 = .ok (.invokevirtual 135, 3) := dk_182 0 135 (dk_at dksX1_count_4 11 rfl rfl)
theorem dX1_count_124 : decode cX1_count 124 = .ok (.ireturn, 1) := dk_172 (dk_at dksX1_count_4 14 rfl rfl)
theorem dX1_count_125 : decode cX1_count 125 = .ok (.aload_n 0, 1) := dk_42 (dk_at dksX1_count_4 15 rfl rfl)
theorem dX1_count_126 : decode cX1_count 126 = .ok (.getfield 40, 3) := dk_180 0 40 (dk_at dksX1_count_4 16 rfl rfl)
theorem dX1_count_129 : decode cX1_count 129 = .ok (.invokevirtual 138, 3) := dk_182 0 138 (dk_at dksX1_count_4 19 rfl rfl)
theorem dX1_count_132 : decode cX1_count 132 = .ok (.ireturn, 1) := dk_172 (dk_at dksX1_count_4 22 rfl rfl)
theorem dX1_count_133 : decode cX1_count 133 = .ok (.aload_n 0, 1) := dk_42 (dk_at dksX1_count_4 23 rfl rfl)
theorem dX1_count_134 : decode cX1_count 134 = .ok (.invokevirtual 141, 3) := dk_182 0 141 (dk_at dksX1_count_5 0 rfl rfl)
theorem dX1_count_137 : decode cX1_count 137 = .ok (.ireturn, 1) := dk_172 (dk_at dksX1_count_5 3 rfl rfl)
theorem dX1_count_138 : decode cX1_count 138 = .ok (.aload_n 0, 1) := dk_42 (dk_at dksX1_count_5 4 rfl rfl)
theorem dX1_count_139 : decode cX1_count 139 = .ok (.getfield 64, 3) := dk_180 0 64 (dk_at dksX1_count_5 5 rfl rfl)
theorem dX1_count_142 : decode cX1_count 142 = .ok (.invokeinterface 121 1, 5) := by decide +kernel
theorem dX1_count_147 : decode cX1_count 147 = .ok (.ireturn, 1) := dk_172 (dk_at dksX1_count_5 13 rfl rfl)
theorem dX1_count_148 : decode cX1_count 148 = .ok (.aload_n 0, 1) := dk_42 (dk_at dksX1_count_5 14 rfl rfl)
theorem dX1_count_149 : decode cX1_count 149 = .ok (.getfield 68, 3) := dk_180 0 68 (dk_at dksX1_count_5 15 rfl rfl)
theorem dX1_count_152 : decode cX1_count 152 = .ok (.invokeinterface 121 1, 5) := by decide +kernel
theorem dX1_count_157 : decode cX1_count 157 = .ok (.ireturn, 1) := dk_172 (dk_at dksX1_count_5 23 rfl rfl)
theorem dX1_count_158 : decode cX1_count 158 = .ok (.aload_n 0, 1) := dk_42 (dk_at dksX1_count_6 0 rfl rfl)
theorem dX1_count_159 : decode cX1_count 159 = .ok (.getfield 71, 3) := dk_180 0 71 (dk_at dksX1_count_6 1 rfl rfl)
theorem dX1_count_162 : decode cX1_count 162 = .ok (.ireturn, 1) := dk_172 (dk_at dksX1_count_6 4 rfl rfl)
theorem dX1_count_163 : decode cX1_count 163 = .ok (.iload_n 1, 1) := dk_27 (dk_at dksX1_count_6 5 rfl rfl)
theorem dX1_count_164 : decode cX1_count 164 = .ok (.bipush 12, 2) := dk_16 12 (dk_at dksX1_count_6 6 rfl rfl)
theorem dX1_count_166 : decode cX1_count 166 = .ok (.bipush 14, 2) := dk_16 14 (dk_at dksX1_count_6 8 rfl rfl)
theorem dX1_count_168 : decode cX1_count 168 = .ok (.invokestatic 144, 3) := dk_184 0 144 (dk_at dksX1_count_6 10 rfl rfl)
theorem dX1_count_171 : decode cX1_count 171 = .ok (.invokestatic 148, 3) := dk_184 0 148 (dk_at dksX1_count_6 13 rfl rfl)
theorem dX1_count_174 : decode cX1_count 174 = .ok (.aload_n 0, 1) := dk_42 (dk_at dksX1_count_6 16 rfl rfl)
theorem dX1_count_175 : decode cX1_count 175 = .ok (.getfield 58, 3) := dk_180 0 58 (dk_at dksX1_count_6 17 rfl rfl)
theorem dX1_count_178 : decode cX1_count 178 = .ok (.iload_n 1, 1) := dk_27 (dk_at dksX1_count_6 20 rfl rfl)
theorem dX1_count_179 : decode cX1_count 179 = .ok (.bipush 12, 2) := dk_16 12 (dk_at dksX1_count_6 21 rfl rfl)
theorem dX1_count_181 : decode cX1_count 181 = .ok (.isub, 1) := dk_100 (dk_at dksX1_count_6 23 rfl rfl)
theorem dX1_count_182 : decode cX1_count 182 = .ok (.iaload, 1) := dk_46 (dk_at dksX1_count_7 0 rfl rfl)
theorem dX1_count_183 : decode cX1_count 183 = .ok (.ireturn, 1) := dk_172 (dk_at dksX1_count_7 1 rfl rfl)
abbrev cX1_aStretch : ByteArray := prog_1_method_12_code
def yX1_aStretch : MethodName := ⟨RX1, "aStretch", "(I)V"⟩
def dkwX1_aStretch_0 : List UInt8 := [27, 3, 42, 180, 0, 31, 180, 0, 115, 4, 100, 184, 0, 144, 184, 0, 148, 177]
abbrev dktX1_aStretch_0 : List UInt8 := dkwX1_aStretch_0 ++ []
theorem dksX1_aStretch_0 : cX1_aStretch.data.toList.drop 0 = dktX1_aStretch_0 := by decide +kernel
theorem dX1_aStretch_0 : decode cX1_aStretch 0 = .ok (.iload_n 1, 1) := dk_27 (dk_at dksX1_aStretch_0 0 rfl rfl)
theorem dX1_aStretch_1 : decode cX1_aStretch 1 = .ok (.iconst 0, 1) := dk_3 (dk_at dksX1_aStretch_0 1 rfl rfl)
theorem dX1_aStretch_2 : decode cX1_aStretch 2 = .ok (.aload_n 0, 1) := dk_42 (dk_at dksX1_aStretch_0 2 rfl rfl)
theorem dX1_aStretch_3 : decode cX1_aStretch 3 = .ok (.getfield 31, 3) := dk_180 0 31 (dk_at dksX1_aStretch_0 3 rfl rfl)
theorem dX1_aStretch_6 : decode cX1_aStretch 6 = .ok (.getfield 115, 3) := dk_180 0 115 (dk_at dksX1_aStretch_0 6 rfl rfl)
theorem dX1_aStretch_9 : decode cX1_aStretch 9 = .ok (.iconst 1, 1) := dk_4 (dk_at dksX1_aStretch_0 9 rfl rfl)
theorem dX1_aStretch_10 : decode cX1_aStretch 10 = .ok (.isub, 1) := dk_100 (dk_at dksX1_aStretch_0 10 rfl rfl)
theorem dX1_aStretch_11 : decode cX1_aStretch 11 = .ok (.invokestatic 144, 3) := dk_184 0 144 (dk_at dksX1_aStretch_0 11 rfl rfl)
theorem dX1_aStretch_14 : decode cX1_aStretch 14 = .ok (.invokestatic 148, 3) := dk_184 0 148 (dk_at dksX1_aStretch_0 14 rfl rfl)
theorem dX1_aStretch_17 : decode cX1_aStretch 17 = .ok (.return_, 1) := dk_177 (dk_at dksX1_aStretch_0 17 rfl rfl)
abbrev cX1_stretch : ByteArray := prog_1_method_15_code
def yX1_stretch : MethodName := ⟨RX1, "stretch", "(II)I"⟩
def dkwX1_stretch_4 : List UInt8 := [28, 8, 160, 0, 7, 4, 167, 0, 4, 3, 184, 0, 148, 42, 180, 0, 40, 27, 182, 0, 167, 172]
abbrev dktX1_stretch_4 : List UInt8 := dkwX1_stretch_4 ++ []
def dkwX1_stretch_3 : List UInt8 := [180, 0, 161, 27, 46, 172, 42, 180, 0, 40, 27, 182, 0, 111, 172, 42, 180, 0, 40, 27, 182, 0, 164, 172]
abbrev dktX1_stretch_3 : List UInt8 := dkwX1_stretch_3 ++ dktX1_stretch_4
def dkwX1_stretch_2 : List UInt8 := [42, 180, 0, 40, 180, 0, 155, 27, 46, 172, 42, 180, 0, 40, 180, 0, 158, 27, 46, 172, 42, 180, 0, 40]
abbrev dktX1_stretch_2 : List UInt8 := dkwX1_stretch_2 ++ dktX1_stretch_3
def dkwX1_stretch_1 : List UInt8 := [170, 0, 0, 0, 0, 82, 0, 0, 0, 0, 0, 0, 0, 4, 0, 0, 0, 34, 0, 0, 0, 44, 0, 0, 0, 54, 0, 0, 0, 64, 0, 0, 0, 73]
abbrev dktX1_stretch_1 : List UInt8 := dkwX1_stretch_1 ++ dktX1_stretch_2
def dkwX1_stretch_0 : List UInt8 := [42, 27, 182, 0, 151, 28]
abbrev dktX1_stretch_0 : List UInt8 := dkwX1_stretch_0 ++ dktX1_stretch_1
theorem dksX1_stretch_0 : cX1_stretch.data.toList.drop 0 = dktX1_stretch_0 := by decide +kernel
theorem dksX1_stretch_1 : cX1_stretch.data.toList.drop 6 = dktX1_stretch_1 := dk_seg dksX1_stretch_0 6 rfl rfl
theorem dksX1_stretch_2 : cX1_stretch.data.toList.drop 40 = dktX1_stretch_2 := dk_seg dksX1_stretch_1 34 rfl rfl
theorem dksX1_stretch_3 : cX1_stretch.data.toList.drop 64 = dktX1_stretch_3 := dk_seg dksX1_stretch_2 24 rfl rfl
theorem dksX1_stretch_4 : cX1_stretch.data.toList.drop 88 = dktX1_stretch_4 := dk_seg dksX1_stretch_3 24 rfl rfl
theorem dX1_stretch_0 : decode cX1_stretch 0 = .ok (.aload_n 0, 1) := dk_42 (dk_at dksX1_stretch_0 0 rfl rfl)
theorem dX1_stretch_1 : decode cX1_stretch 1 = .ok (.iload_n 1, 1) := dk_27 (dk_at dksX1_stretch_0 1 rfl rfl)
theorem dX1_stretch_2 : decode cX1_stretch 2 = .ok (.invokevirtual 151, 3) := dk_182 0 151 (dk_at dksX1_stretch_0 2 rfl rfl)
theorem dX1_stretch_5 : decode cX1_stretch 5 = .ok (.iload_n 2, 1) := dk_28 (dk_at dksX1_stretch_0 5 rfl rfl)
theorem dX1_stretch_6 : decode cX1_stretch 6 = .ok (.tableswitch 82 0 4 #[34, 44, 54, 64, 73], 34) := by decide +kernel
theorem dX1_stretch_40 : decode cX1_stretch 40 = .ok (.aload_n 0, 1) := dk_42 (dk_at dksX1_stretch_2 0 rfl rfl)
theorem dX1_stretch_41 : decode cX1_stretch 41 = .ok (.getfield 40, 3) := dk_180 0 40 (dk_at dksX1_stretch_2 1 rfl rfl)
theorem dX1_stretch_44 : decode cX1_stretch 44 = .ok (.getfield 155, 3) := dk_180 0 155 (dk_at dksX1_stretch_2 4 rfl rfl)
theorem dX1_stretch_47 : decode cX1_stretch 47 = .ok (.iload_n 1, 1) := dk_27 (dk_at dksX1_stretch_2 7 rfl rfl)
theorem dX1_stretch_48 : decode cX1_stretch 48 = .ok (.iaload, 1) := dk_46 (dk_at dksX1_stretch_2 8 rfl rfl)
theorem dX1_stretch_49 : decode cX1_stretch 49 = .ok (.ireturn, 1) := dk_172 (dk_at dksX1_stretch_2 9 rfl rfl)
theorem dX1_stretch_50 : decode cX1_stretch 50 = .ok (.aload_n 0, 1) := dk_42 (dk_at dksX1_stretch_2 10 rfl rfl)
theorem dX1_stretch_51 : decode cX1_stretch 51 = .ok (.getfield 40, 3) := dk_180 0 40 (dk_at dksX1_stretch_2 11 rfl rfl)
theorem dX1_stretch_54 : decode cX1_stretch 54 = .ok (.getfield 158, 3) := dk_180 0 158 (dk_at dksX1_stretch_2 14 rfl rfl)
theorem dX1_stretch_57 : decode cX1_stretch 57 = .ok (.iload_n 1, 1) := dk_27 (dk_at dksX1_stretch_2 17 rfl rfl)
theorem dX1_stretch_58 : decode cX1_stretch 58 = .ok (.iaload, 1) := dk_46 (dk_at dksX1_stretch_2 18 rfl rfl)
theorem dX1_stretch_59 : decode cX1_stretch 59 = .ok (.ireturn, 1) := dk_172 (dk_at dksX1_stretch_2 19 rfl rfl)
theorem dX1_stretch_60 : decode cX1_stretch 60 = .ok (.aload_n 0, 1) := dk_42 (dk_at dksX1_stretch_2 20 rfl rfl)
theorem dX1_stretch_61 : decode cX1_stretch 61 = .ok (.getfield 40, 3) := dk_180 0 40 (dk_at dksX1_stretch_2 21 rfl rfl)
theorem dX1_stretch_64 : decode cX1_stretch 64 = .ok (.getfield 161, 3) := dk_180 0 161 (dk_at dksX1_stretch_3 0 rfl rfl)
theorem dX1_stretch_67 : decode cX1_stretch 67 = .ok (.iload_n 1, 1) := dk_27 (dk_at dksX1_stretch_3 3 rfl rfl)
theorem dX1_stretch_68 : decode cX1_stretch 68 = .ok (.iaload, 1) := dk_46 (dk_at dksX1_stretch_3 4 rfl rfl)
theorem dX1_stretch_69 : decode cX1_stretch 69 = .ok (.ireturn, 1) := dk_172 (dk_at dksX1_stretch_3 5 rfl rfl)
theorem dX1_stretch_70 : decode cX1_stretch 70 = .ok (.aload_n 0, 1) := dk_42 (dk_at dksX1_stretch_3 6 rfl rfl)
theorem dX1_stretch_71 : decode cX1_stretch 71 = .ok (.getfield 40, 3) := dk_180 0 40 (dk_at dksX1_stretch_3 7 rfl rfl)
theorem dX1_stretch_74 : decode cX1_stretch 74 = .ok (.iload_n 1, 1) := dk_27 (dk_at dksX1_stretch_3 10 rfl rfl)
theorem dX1_stretch_75 : decode cX1_stretch 75 = .ok (.invokevirtual 111, 3) := dk_182 0 111 (dk_at dksX1_stretch_3 11 rfl rfl)
theorem dX1_stretch_78 : decode cX1_stretch 78 = .ok (.ireturn, 1) := dk_172 (dk_at dksX1_stretch_3 14 rfl rfl)
theorem dX1_stretch_79 : decode cX1_stretch 79 = .ok (.aload_n 0, 1) := dk_42 (dk_at dksX1_stretch_3 15 rfl rfl)
theorem dX1_stretch_80 : decode cX1_stretch 80 = .ok (.getfield 40, 3) := dk_180 0 40 (dk_at dksX1_stretch_3 16 rfl rfl)
theorem dX1_stretch_83 : decode cX1_stretch 83 = .ok (.iload_n 1, 1) := dk_27 (dk_at dksX1_stretch_3 19 rfl rfl)
theorem dX1_stretch_84 : decode cX1_stretch 84 = .ok (.invokevirtual 164, 3) := dk_182 0 164 (dk_at dksX1_stretch_3 20 rfl rfl)
theorem dX1_stretch_87 : decode cX1_stretch 87 = .ok (.ireturn, 1) := dk_172 (dk_at dksX1_stretch_3 23 rfl rfl)
theorem dX1_stretch_88 : decode cX1_stretch 88 = .ok (.iload_n 2, 1) := dk_28 (dk_at dksX1_stretch_4 0 rfl rfl)
theorem dX1_stretch_89 : decode cX1_stretch 89 = .ok (.iconst 5, 1) := dk_8 (dk_at dksX1_stretch_4 1 rfl rfl)
theorem dX1_stretch_90 : decode cX1_stretch 90 = .ok (.if_icmp .ne 7, 3) := dk_160 0 7 (dk_at dksX1_stretch_4 2 rfl rfl)
theorem dX1_stretch_93 : decode cX1_stretch 93 = .ok (.iconst 1, 1) := dk_4 (dk_at dksX1_stretch_4 5 rfl rfl)
theorem dX1_stretch_94 : decode cX1_stretch 94 = .ok (.goto 4, 3) := dk_167 0 4 (dk_at dksX1_stretch_4 6 rfl rfl)
theorem dX1_stretch_97 : decode cX1_stretch 97 = .ok (.iconst 0, 1) := dk_3 (dk_at dksX1_stretch_4 9 rfl rfl)
theorem dX1_stretch_98 : decode cX1_stretch 98 = .ok (.invokestatic 148, 3) := dk_184 0 148 (dk_at dksX1_stretch_4 10 rfl rfl)
theorem dX1_stretch_101 : decode cX1_stretch 101 = .ok (.aload_n 0, 1) := dk_42 (dk_at dksX1_stretch_4 13 rfl rfl)
theorem dX1_stretch_102 : decode cX1_stretch 102 = .ok (.getfield 40, 3) := dk_180 0 40 (dk_at dksX1_stretch_4 14 rfl rfl)
theorem dX1_stretch_105 : decode cX1_stretch 105 = .ok (.iload_n 1, 1) := dk_27 (dk_at dksX1_stretch_4 17 rfl rfl)
theorem dX1_stretch_106 : decode cX1_stretch 106 = .ok (.invokevirtual 167, 3) := dk_182 0 167 (dk_at dksX1_stretch_4 18 rfl rfl)
theorem dX1_stretch_109 : decode cX1_stretch 109 = .ok (.ireturn, 1) := dk_172 (dk_at dksX1_stretch_4 21 rfl rfl)
abbrev cX1_aWoman : ByteArray := prog_1_method_13_code
def yX1_aWoman : MethodName := ⟨RX1, "aWoman", "(I)V"⟩
def dkwX1_aWoman_0 : List UInt8 := [27, 3, 42, 180, 0, 31, 182, 0, 101, 4, 100, 184, 0, 144, 184, 0, 148, 177]
abbrev dktX1_aWoman_0 : List UInt8 := dkwX1_aWoman_0 ++ []
theorem dksX1_aWoman_0 : cX1_aWoman.data.toList.drop 0 = dktX1_aWoman_0 := by decide +kernel
theorem dX1_aWoman_0 : decode cX1_aWoman 0 = .ok (.iload_n 1, 1) := dk_27 (dk_at dksX1_aWoman_0 0 rfl rfl)
theorem dX1_aWoman_1 : decode cX1_aWoman 1 = .ok (.iconst 0, 1) := dk_3 (dk_at dksX1_aWoman_0 1 rfl rfl)
theorem dX1_aWoman_2 : decode cX1_aWoman 2 = .ok (.aload_n 0, 1) := dk_42 (dk_at dksX1_aWoman_0 2 rfl rfl)
theorem dX1_aWoman_3 : decode cX1_aWoman 3 = .ok (.getfield 31, 3) := dk_180 0 31 (dk_at dksX1_aWoman_0 3 rfl rfl)
theorem dX1_aWoman_6 : decode cX1_aWoman 6 = .ok (.invokevirtual 101, 3) := dk_182 0 101 (dk_at dksX1_aWoman_0 6 rfl rfl)
theorem dX1_aWoman_9 : decode cX1_aWoman 9 = .ok (.iconst 1, 1) := dk_4 (dk_at dksX1_aWoman_0 9 rfl rfl)
theorem dX1_aWoman_10 : decode cX1_aWoman 10 = .ok (.isub, 1) := dk_100 (dk_at dksX1_aWoman_0 10 rfl rfl)
theorem dX1_aWoman_11 : decode cX1_aWoman 11 = .ok (.invokestatic 144, 3) := dk_184 0 144 (dk_at dksX1_aWoman_0 11 rfl rfl)
theorem dX1_aWoman_14 : decode cX1_aWoman 14 = .ok (.invokestatic 148, 3) := dk_184 0 148 (dk_at dksX1_aWoman_0 14 rfl rfl)
theorem dX1_aWoman_17 : decode cX1_aWoman 17 = .ok (.return_, 1) := dk_177 (dk_at dksX1_aWoman_0 17 rfl rfl)
abbrev cX1_oneOf : ByteArray := prog_1_method_14_code
def yX1_oneOf : MethodName := ⟨RX1, "oneOf", "(II)V"⟩
def dkwX1_oneOf_0 : List UInt8 := [26, 3, 27, 184, 0, 144, 184, 0, 148, 177]
abbrev dktX1_oneOf_0 : List UInt8 := dkwX1_oneOf_0 ++ []
theorem dksX1_oneOf_0 : cX1_oneOf.data.toList.drop 0 = dktX1_oneOf_0 := by decide +kernel
theorem dX1_oneOf_0 : decode cX1_oneOf 0 = .ok (.iload_n 0, 1) := dk_26 (dk_at dksX1_oneOf_0 0 rfl rfl)
theorem dX1_oneOf_1 : decode cX1_oneOf 1 = .ok (.iconst 0, 1) := dk_3 (dk_at dksX1_oneOf_0 1 rfl rfl)
theorem dX1_oneOf_2 : decode cX1_oneOf 2 = .ok (.iload_n 1, 1) := dk_27 (dk_at dksX1_oneOf_0 2 rfl rfl)
theorem dX1_oneOf_3 : decode cX1_oneOf 3 = .ok (.invokestatic 144, 3) := dk_184 0 144 (dk_at dksX1_oneOf_0 3 rfl rfl)
theorem dX1_oneOf_6 : decode cX1_oneOf 6 = .ok (.invokestatic 148, 3) := dk_184 0 148 (dk_at dksX1_oneOf_0 6 rfl rfl)
theorem dX1_oneOf_9 : decode cX1_oneOf 9 = .ok (.return_, 1) := dk_177 (dk_at dksX1_oneOf_0 9 rfl rfl)
abbrev cX1_woman : ByteArray := prog_1_method_16_code
def yX1_woman : MethodName := ⟨RX1, "woman", "(II)I"⟩
def dkwX1_woman_2 : List UInt8 := [180, 0, 108, 27, 46, 167, 0, 12, 42, 180, 0, 40, 180, 0, 105, 27, 46, 172]
abbrev dktX1_woman_2 : List UInt8 := dkwX1_woman_2 ++ []
def dkwX1_woman_1 : List UInt8 := [185, 0, 180, 2, 0, 192, 0, 184, 182, 0, 186, 167, 0, 29, 28, 4, 160, 0, 15, 42, 180, 0, 40]
abbrev dktX1_woman_1 : List UInt8 := dkwX1_woman_1 ++ dktX1_woman_2
def dkwX1_woman_0 : List UInt8 := [42, 27, 182, 0, 170, 28, 5, 184, 0, 173, 28, 154, 0, 25, 42, 180, 0, 31, 180, 0, 177, 27]
abbrev dktX1_woman_0 : List UInt8 := dkwX1_woman_0 ++ dktX1_woman_1
theorem dksX1_woman_0 : cX1_woman.data.toList.drop 0 = dktX1_woman_0 := by decide +kernel
theorem dksX1_woman_1 : cX1_woman.data.toList.drop 22 = dktX1_woman_1 := dk_seg dksX1_woman_0 22 rfl rfl
theorem dksX1_woman_2 : cX1_woman.data.toList.drop 45 = dktX1_woman_2 := dk_seg dksX1_woman_1 23 rfl rfl
theorem dX1_woman_0 : decode cX1_woman 0 = .ok (.aload_n 0, 1) := dk_42 (dk_at dksX1_woman_0 0 rfl rfl)
theorem dX1_woman_1 : decode cX1_woman 1 = .ok (.iload_n 1, 1) := dk_27 (dk_at dksX1_woman_0 1 rfl rfl)
theorem dX1_woman_2 : decode cX1_woman 2 = .ok (.invokevirtual 170, 3) := dk_182 0 170 (dk_at dksX1_woman_0 2 rfl rfl)
theorem dX1_woman_5 : decode cX1_woman 5 = .ok (.iload_n 2, 1) := dk_28 (dk_at dksX1_woman_0 5 rfl rfl)
theorem dX1_woman_6 : decode cX1_woman 6 = .ok (.iconst 2, 1) := dk_5 (dk_at dksX1_woman_0 6 rfl rfl)
theorem dX1_woman_7 : decode cX1_woman 7 = .ok (.invokestatic 173, 3) := dk_184 0 173 (dk_at dksX1_woman_0 7 rfl rfl)
theorem dX1_woman_10 : decode cX1_woman 10 = .ok (.iload_n 2, 1) := dk_28 (dk_at dksX1_woman_0 10 rfl rfl)
theorem dX1_woman_11 : decode cX1_woman 11 = .ok (.ifCond .ne 25, 3) := dk_154 0 25 (dk_at dksX1_woman_0 11 rfl rfl)
theorem dX1_woman_14 : decode cX1_woman 14 = .ok (.aload_n 0, 1) := dk_42 (dk_at dksX1_woman_0 14 rfl rfl)
theorem dX1_woman_15 : decode cX1_woman 15 = .ok (.getfield 31, 3) := dk_180 0 31 (dk_at dksX1_woman_0 15 rfl rfl)
theorem dX1_woman_18 : decode cX1_woman 18 = .ok (.getfield 177, 3) := dk_180 0 177 (dk_at dksX1_woman_0 18 rfl rfl)
theorem dX1_woman_21 : decode cX1_woman 21 = .ok (.iload_n 1, 1) := dk_27 (dk_at dksX1_woman_0 21 rfl rfl)
theorem dX1_woman_22 : decode cX1_woman 22 = .ok (.invokeinterface 180 2, 5) := by decide +kernel
theorem dX1_woman_27 : decode cX1_woman 27 = .ok (.checkcast 184, 3) := dk_192 0 184 (dk_at dksX1_woman_1 5 rfl rfl)
theorem dX1_woman_30 : decode cX1_woman 30 = .ok (.invokevirtual 186, 3) := dk_182 0 186 (dk_at dksX1_woman_1 8 rfl rfl)
theorem dX1_woman_33 : decode cX1_woman 33 = .ok (.goto 29, 3) := dk_167 0 29 (dk_at dksX1_woman_1 11 rfl rfl)
theorem dX1_woman_36 : decode cX1_woman 36 = .ok (.iload_n 2, 1) := dk_28 (dk_at dksX1_woman_1 14 rfl rfl)
theorem dX1_woman_37 : decode cX1_woman 37 = .ok (.iconst 1, 1) := dk_4 (dk_at dksX1_woman_1 15 rfl rfl)
theorem dX1_woman_38 : decode cX1_woman 38 = .ok (.if_icmp .ne 15, 3) := dk_160 0 15 (dk_at dksX1_woman_1 16 rfl rfl)
theorem dX1_woman_41 : decode cX1_woman 41 = .ok (.aload_n 0, 1) := dk_42 (dk_at dksX1_woman_1 19 rfl rfl)
theorem dX1_woman_42 : decode cX1_woman 42 = .ok (.getfield 40, 3) := dk_180 0 40 (dk_at dksX1_woman_1 20 rfl rfl)
theorem dX1_woman_45 : decode cX1_woman 45 = .ok (.getfield 108, 3) := dk_180 0 108 (dk_at dksX1_woman_2 0 rfl rfl)
theorem dX1_woman_48 : decode cX1_woman 48 = .ok (.iload_n 1, 1) := dk_27 (dk_at dksX1_woman_2 3 rfl rfl)
theorem dX1_woman_49 : decode cX1_woman 49 = .ok (.iaload, 1) := dk_46 (dk_at dksX1_woman_2 4 rfl rfl)
theorem dX1_woman_50 : decode cX1_woman 50 = .ok (.goto 12, 3) := dk_167 0 12 (dk_at dksX1_woman_2 5 rfl rfl)
theorem dX1_woman_53 : decode cX1_woman 53 = .ok (.aload_n 0, 1) := dk_42 (dk_at dksX1_woman_2 8 rfl rfl)
theorem dX1_woman_54 : decode cX1_woman 54 = .ok (.getfield 40, 3) := dk_180 0 40 (dk_at dksX1_woman_2 9 rfl rfl)
theorem dX1_woman_57 : decode cX1_woman 57 = .ok (.getfield 105, 3) := dk_180 0 105 (dk_at dksX1_woman_2 12 rfl rfl)
theorem dX1_woman_60 : decode cX1_woman 60 = .ok (.iload_n 1, 1) := dk_27 (dk_at dksX1_woman_2 15 rfl rfl)
theorem dX1_woman_61 : decode cX1_woman 61 = .ok (.iaload, 1) := dk_46 (dk_at dksX1_woman_2 16 rfl rfl)
theorem dX1_woman_62 : decode cX1_woman 62 = .ok (.ireturn, 1) := dk_172 (dk_at dksX1_woman_2 17 rfl rfl)
abbrev cX3_after : ByteArray := prog_4_method_15_code
def yX3_after : MethodName := ⟨RX3, "after", "(I)LHorizonSeam$Line;"⟩
def dkwX3_after_0 : List UInt8 := [3, 61, 28, 27, 162, 0, 14, 42, 182, 0, 147, 87, 132, 2, 1, 167, 255, 243, 42, 176]
abbrev dktX3_after_0 : List UInt8 := dkwX3_after_0 ++ []
theorem dksX3_after_0 : cX3_after.data.toList.drop 0 = dktX3_after_0 := by decide +kernel
theorem dX3_after_0 : decode cX3_after 0 = .ok (.iconst 0, 1) := dk_3 (dk_at dksX3_after_0 0 rfl rfl)
theorem dX3_after_1 : decode cX3_after 1 = .ok (.istore_n 2, 1) := dk_61 (dk_at dksX3_after_0 1 rfl rfl)
theorem dX3_after_2 : decode cX3_after 2 = .ok (.iload_n 2, 1) := dk_28 (dk_at dksX3_after_0 2 rfl rfl)
theorem dX3_after_3 : decode cX3_after 3 = .ok (.iload_n 1, 1) := dk_27 (dk_at dksX3_after_0 3 rfl rfl)
theorem dX3_after_4 : decode cX3_after 4 = .ok (.if_icmp .ge 14, 3) := dk_162 0 14 (dk_at dksX3_after_0 4 rfl rfl)
theorem dX3_after_7 : decode cX3_after 7 = .ok (.aload_n 0, 1) := dk_42 (dk_at dksX3_after_0 7 rfl rfl)
theorem dX3_after_8 : decode cX3_after 8 = .ok (.invokevirtual 147, 3) := dk_182 0 147 (dk_at dksX3_after_0 8 rfl rfl)
theorem dX3_after_11 : decode cX3_after 11 = .ok (.pop, 1) := dk_87 (dk_at dksX3_after_0 11 rfl rfl)
theorem dX3_after_12 : decode cX3_after 12 = .ok (.iinc 2 1, 3) := dk_132 2 1 (dk_at dksX3_after_0 12 rfl rfl)
theorem dX3_after_15 : decode cX3_after 15 = .ok (.goto (-13), 3) := dk_167 255 243 (dk_at dksX3_after_0 15 rfl rfl)
theorem dX3_after_18 : decode cX3_after 18 = .ok (.aload_n 0, 1) := dk_42 (dk_at dksX3_after_0 18 rfl rfl)
theorem dX3_after_19 : decode cX3_after 19 = .ok (.areturn, 1) := dk_176 (dk_at dksX3_after_0 19 rfl rfl)
abbrev cX1_tryOn : ByteArray := prog_1_method_26_code
def yX1_tryOn : MethodName := ⟨RX1, "tryOn", "(I)LHorizonSeam$Line;"⟩
def dkwX1_tryOn_0 : List UInt8 := [42, 180, 0, 44, 42, 180, 0, 40, 182, 0, 224, 27, 182, 0, 206, 176]
abbrev dktX1_tryOn_0 : List UInt8 := dkwX1_tryOn_0 ++ []
theorem dksX1_tryOn_0 : cX1_tryOn.data.toList.drop 0 = dktX1_tryOn_0 := by decide +kernel
theorem dX1_tryOn_0 : decode cX1_tryOn 0 = .ok (.aload_n 0, 1) := dk_42 (dk_at dksX1_tryOn_0 0 rfl rfl)
theorem dX1_tryOn_1 : decode cX1_tryOn 1 = .ok (.getfield 44, 3) := dk_180 0 44 (dk_at dksX1_tryOn_0 1 rfl rfl)
theorem dX1_tryOn_4 : decode cX1_tryOn 4 = .ok (.aload_n 0, 1) := dk_42 (dk_at dksX1_tryOn_0 4 rfl rfl)
theorem dX1_tryOn_5 : decode cX1_tryOn 5 = .ok (.getfield 40, 3) := dk_180 0 40 (dk_at dksX1_tryOn_0 5 rfl rfl)
theorem dX1_tryOn_8 : decode cX1_tryOn 8 = .ok (.invokevirtual 224, 3) := dk_182 0 224 (dk_at dksX1_tryOn_0 8 rfl rfl)
theorem dX1_tryOn_11 : decode cX1_tryOn 11 = .ok (.iload_n 1, 1) := dk_27 (dk_at dksX1_tryOn_0 11 rfl rfl)
theorem dX1_tryOn_12 : decode cX1_tryOn 12 = .ok (.invokevirtual 206, 3) := dk_182 0 206 (dk_at dksX1_tryOn_0 12 rfl rfl)
theorem dX1_tryOn_15 : decode cX1_tryOn 15 = .ok (.areturn, 1) := dk_176 (dk_at dksX1_tryOn_0 15 rfl rfl)
abbrev cX1_then : ByteArray := prog_1_method_27_code
def yX1_then : MethodName := ⟨RX1, "then", "(III)I"⟩
def dkwX1_then_1 : List UInt8 := [42, 28, 182, 0, 228, 180, 0, 155, 27, 46, 167, 0, 13, 42, 28, 182, 0, 228, 180, 0, 158, 27, 46, 172]
abbrev dktX1_then_1 : List UInt8 := dkwX1_then_1 ++ []
def dkwX1_then_0 : List UInt8 := [42, 27, 182, 0, 151, 29, 4, 184, 0, 173, 28, 3, 16, 60, 184, 0, 144, 184, 0, 74, 29, 154, 0, 16]
abbrev dktX1_then_0 : List UInt8 := dkwX1_then_0 ++ dktX1_then_1
theorem dksX1_then_0 : cX1_then.data.toList.drop 0 = dktX1_then_0 := by decide +kernel
theorem dksX1_then_1 : cX1_then.data.toList.drop 24 = dktX1_then_1 := dk_seg dksX1_then_0 24 rfl rfl
theorem dX1_then_0 : decode cX1_then 0 = .ok (.aload_n 0, 1) := dk_42 (dk_at dksX1_then_0 0 rfl rfl)
theorem dX1_then_1 : decode cX1_then 1 = .ok (.iload_n 1, 1) := dk_27 (dk_at dksX1_then_0 1 rfl rfl)
theorem dX1_then_2 : decode cX1_then 2 = .ok (.invokevirtual 151, 3) := dk_182 0 151 (dk_at dksX1_then_0 2 rfl rfl)
theorem dX1_then_5 : decode cX1_then 5 = .ok (.iload_n 3, 1) := dk_29 (dk_at dksX1_then_0 5 rfl rfl)
theorem dX1_then_6 : decode cX1_then 6 = .ok (.iconst 1, 1) := dk_4 (dk_at dksX1_then_0 6 rfl rfl)
theorem dX1_then_7 : decode cX1_then 7 = .ok (.invokestatic 173, 3) := dk_184 0 173 (dk_at dksX1_then_0 7 rfl rfl)
theorem dX1_then_10 : decode cX1_then 10 = .ok (.iload_n 2, 1) := dk_28 (dk_at dksX1_then_0 10 rfl rfl)
theorem dX1_then_11 : decode cX1_then 11 = .ok (.iconst 0, 1) := dk_3 (dk_at dksX1_then_0 11 rfl rfl)
theorem dX1_then_12 : decode cX1_then 12 = .ok (.bipush 60, 2) := dk_16 60 (dk_at dksX1_then_0 12 rfl rfl)
theorem dX1_then_14 : decode cX1_then 14 = .ok (.invokestatic 144, 3) := dk_184 0 144 (dk_at dksX1_then_0 14 rfl rfl)
theorem dX1_then_17 : decode cX1_then 17 = .ok (.invokestatic 74, 3) := dk_184 0 74 (dk_at dksX1_then_0 17 rfl rfl)
theorem dX1_then_20 : decode cX1_then 20 = .ok (.iload_n 3, 1) := dk_29 (dk_at dksX1_then_0 20 rfl rfl)
theorem dX1_then_21 : decode cX1_then 21 = .ok (.ifCond .ne 16, 3) := dk_154 0 16 (dk_at dksX1_then_0 21 rfl rfl)
theorem dX1_then_24 : decode cX1_then 24 = .ok (.aload_n 0, 1) := dk_42 (dk_at dksX1_then_1 0 rfl rfl)
theorem dX1_then_25 : decode cX1_then 25 = .ok (.iload_n 2, 1) := dk_28 (dk_at dksX1_then_1 1 rfl rfl)
theorem dX1_then_26 : decode cX1_then 26 = .ok (.invokevirtual 228, 3) := dk_182 0 228 (dk_at dksX1_then_1 2 rfl rfl)
theorem dX1_then_29 : decode cX1_then 29 = .ok (.getfield 155, 3) := dk_180 0 155 (dk_at dksX1_then_1 5 rfl rfl)
theorem dX1_then_32 : decode cX1_then 32 = .ok (.iload_n 1, 1) := dk_27 (dk_at dksX1_then_1 8 rfl rfl)
theorem dX1_then_33 : decode cX1_then 33 = .ok (.iaload, 1) := dk_46 (dk_at dksX1_then_1 9 rfl rfl)
theorem dX1_then_34 : decode cX1_then 34 = .ok (.goto 13, 3) := dk_167 0 13 (dk_at dksX1_then_1 10 rfl rfl)
theorem dX1_then_37 : decode cX1_then 37 = .ok (.aload_n 0, 1) := dk_42 (dk_at dksX1_then_1 13 rfl rfl)
theorem dX1_then_38 : decode cX1_then 38 = .ok (.iload_n 2, 1) := dk_28 (dk_at dksX1_then_1 14 rfl rfl)
theorem dX1_then_39 : decode cX1_then 39 = .ok (.invokevirtual 228, 3) := dk_182 0 228 (dk_at dksX1_then_1 15 rfl rfl)
theorem dX1_then_42 : decode cX1_then 42 = .ok (.getfield 158, 3) := dk_180 0 158 (dk_at dksX1_then_1 18 rfl rfl)
theorem dX1_then_45 : decode cX1_then 45 = .ok (.iload_n 1, 1) := dk_27 (dk_at dksX1_then_1 21 rfl rfl)
theorem dX1_then_46 : decode cX1_then 46 = .ok (.iaload, 1) := dk_46 (dk_at dksX1_then_1 22 rfl rfl)
theorem dX1_then_47 : decode cX1_then 47 = .ok (.ireturn, 1) := dk_172 (dk_at dksX1_then_1 23 rfl rfl)
abbrev cX3_loosest : ByteArray := prog_4_method_21_code
def yX3_loosest : MethodName := ⟨RX3, "loosest", "()I"⟩
def dkwX3_loosest_1 : List UInt8 := [42, 180, 0, 15, 27, 46, 162, 0, 5, 28, 60, 132, 2, 1, 167, 255, 222, 27, 172]
abbrev dktX3_loosest_1 : List UInt8 := dkwX3_loosest_1 ++ []
def dkwX3_loosest_0 : List UInt8 := [3, 60, 4, 61, 28, 42, 180, 0, 3, 180, 0, 45, 180, 0, 127, 162, 0, 26, 42, 180, 0, 15, 28, 46]
abbrev dktX3_loosest_0 : List UInt8 := dkwX3_loosest_0 ++ dktX3_loosest_1
theorem dksX3_loosest_0 : cX3_loosest.data.toList.drop 0 = dktX3_loosest_0 := by decide +kernel
theorem dksX3_loosest_1 : cX3_loosest.data.toList.drop 24 = dktX3_loosest_1 := dk_seg dksX3_loosest_0 24 rfl rfl
theorem dX3_loosest_0 : decode cX3_loosest 0 = .ok (.iconst 0, 1) := dk_3 (dk_at dksX3_loosest_0 0 rfl rfl)
theorem dX3_loosest_1 : decode cX3_loosest 1 = .ok (.istore_n 1, 1) := dk_60 (dk_at dksX3_loosest_0 1 rfl rfl)
theorem dX3_loosest_2 : decode cX3_loosest 2 = .ok (.iconst 1, 1) := dk_4 (dk_at dksX3_loosest_0 2 rfl rfl)
theorem dX3_loosest_3 : decode cX3_loosest 3 = .ok (.istore_n 2, 1) := dk_61 (dk_at dksX3_loosest_0 3 rfl rfl)
theorem dX3_loosest_4 : decode cX3_loosest 4 = .ok (.iload_n 2, 1) := dk_28 (dk_at dksX3_loosest_0 4 rfl rfl)
theorem dX3_loosest_5 : decode cX3_loosest 5 = .ok (.aload_n 0, 1) := dk_42 (dk_at dksX3_loosest_0 5 rfl rfl)
theorem dX3_loosest_6 : decode cX3_loosest 6 = .ok (.getfield 3, 3) := dk_180 0 3 (dk_at dksX3_loosest_0 6 rfl rfl)
theorem dX3_loosest_9 : decode cX3_loosest 9 = .ok (.getfield 45, 3) := dk_180 0 45 (dk_at dksX3_loosest_0 9 rfl rfl)
theorem dX3_loosest_12 : decode cX3_loosest 12 = .ok (.getfield 127, 3) := dk_180 0 127 (dk_at dksX3_loosest_0 12 rfl rfl)
theorem dX3_loosest_15 : decode cX3_loosest 15 = .ok (.if_icmp .ge 26, 3) := dk_162 0 26 (dk_at dksX3_loosest_0 15 rfl rfl)
theorem dX3_loosest_18 : decode cX3_loosest 18 = .ok (.aload_n 0, 1) := dk_42 (dk_at dksX3_loosest_0 18 rfl rfl)
theorem dX3_loosest_19 : decode cX3_loosest 19 = .ok (.getfield 15, 3) := dk_180 0 15 (dk_at dksX3_loosest_0 19 rfl rfl)
theorem dX3_loosest_22 : decode cX3_loosest 22 = .ok (.iload_n 2, 1) := dk_28 (dk_at dksX3_loosest_0 22 rfl rfl)
theorem dX3_loosest_23 : decode cX3_loosest 23 = .ok (.iaload, 1) := dk_46 (dk_at dksX3_loosest_0 23 rfl rfl)
theorem dX3_loosest_24 : decode cX3_loosest 24 = .ok (.aload_n 0, 1) := dk_42 (dk_at dksX3_loosest_1 0 rfl rfl)
theorem dX3_loosest_25 : decode cX3_loosest 25 = .ok (.getfield 15, 3) := dk_180 0 15 (dk_at dksX3_loosest_1 1 rfl rfl)
theorem dX3_loosest_28 : decode cX3_loosest 28 = .ok (.iload_n 1, 1) := dk_27 (dk_at dksX3_loosest_1 4 rfl rfl)
theorem dX3_loosest_29 : decode cX3_loosest 29 = .ok (.iaload, 1) := dk_46 (dk_at dksX3_loosest_1 5 rfl rfl)
theorem dX3_loosest_30 : decode cX3_loosest 30 = .ok (.if_icmp .ge 5, 3) := dk_162 0 5 (dk_at dksX3_loosest_1 6 rfl rfl)
theorem dX3_loosest_33 : decode cX3_loosest 33 = .ok (.iload_n 2, 1) := dk_28 (dk_at dksX3_loosest_1 9 rfl rfl)
theorem dX3_loosest_34 : decode cX3_loosest 34 = .ok (.istore_n 1, 1) := dk_60 (dk_at dksX3_loosest_1 10 rfl rfl)
theorem dX3_loosest_35 : decode cX3_loosest 35 = .ok (.iinc 2 1, 3) := dk_132 2 1 (dk_at dksX3_loosest_1 11 rfl rfl)
theorem dX3_loosest_38 : decode cX3_loosest 38 = .ok (.goto (-34), 3) := dk_167 255 222 (dk_at dksX3_loosest_1 14 rfl rfl)
theorem dX3_loosest_41 : decode cX3_loosest 41 = .ok (.iload_n 1, 1) := dk_27 (dk_at dksX3_loosest_1 17 rfl rfl)
theorem dX3_loosest_42 : decode cX3_loosest 42 = .ok (.ireturn, 1) := dk_172 (dk_at dksX3_loosest_1 18 rfl rfl)
abbrev cX3_tightest : ByteArray := prog_4_method_20_code
def yX3_tightest : MethodName := ⟨RX3, "tightest", "()I"⟩
def dkwX3_tightest_1 : List UInt8 := [42, 180, 0, 15, 27, 46, 164, 0, 5, 28, 60, 132, 2, 1, 167, 255, 222, 27, 172]
abbrev dktX3_tightest_1 : List UInt8 := dkwX3_tightest_1 ++ []
def dkwX3_tightest_0 : List UInt8 := [3, 60, 4, 61, 28, 42, 180, 0, 3, 180, 0, 45, 180, 0, 127, 162, 0, 26, 42, 180, 0, 15, 28, 46]
abbrev dktX3_tightest_0 : List UInt8 := dkwX3_tightest_0 ++ dktX3_tightest_1
theorem dksX3_tightest_0 : cX3_tightest.data.toList.drop 0 = dktX3_tightest_0 := by decide +kernel
theorem dksX3_tightest_1 : cX3_tightest.data.toList.drop 24 = dktX3_tightest_1 := dk_seg dksX3_tightest_0 24 rfl rfl
theorem dX3_tightest_0 : decode cX3_tightest 0 = .ok (.iconst 0, 1) := dk_3 (dk_at dksX3_tightest_0 0 rfl rfl)
theorem dX3_tightest_1 : decode cX3_tightest 1 = .ok (.istore_n 1, 1) := dk_60 (dk_at dksX3_tightest_0 1 rfl rfl)
theorem dX3_tightest_2 : decode cX3_tightest 2 = .ok (.iconst 1, 1) := dk_4 (dk_at dksX3_tightest_0 2 rfl rfl)
theorem dX3_tightest_3 : decode cX3_tightest 3 = .ok (.istore_n 2, 1) := dk_61 (dk_at dksX3_tightest_0 3 rfl rfl)
theorem dX3_tightest_4 : decode cX3_tightest 4 = .ok (.iload_n 2, 1) := dk_28 (dk_at dksX3_tightest_0 4 rfl rfl)
theorem dX3_tightest_5 : decode cX3_tightest 5 = .ok (.aload_n 0, 1) := dk_42 (dk_at dksX3_tightest_0 5 rfl rfl)
theorem dX3_tightest_6 : decode cX3_tightest 6 = .ok (.getfield 3, 3) := dk_180 0 3 (dk_at dksX3_tightest_0 6 rfl rfl)
theorem dX3_tightest_9 : decode cX3_tightest 9 = .ok (.getfield 45, 3) := dk_180 0 45 (dk_at dksX3_tightest_0 9 rfl rfl)
theorem dX3_tightest_12 : decode cX3_tightest 12 = .ok (.getfield 127, 3) := dk_180 0 127 (dk_at dksX3_tightest_0 12 rfl rfl)
theorem dX3_tightest_15 : decode cX3_tightest 15 = .ok (.if_icmp .ge 26, 3) := dk_162 0 26 (dk_at dksX3_tightest_0 15 rfl rfl)
theorem dX3_tightest_18 : decode cX3_tightest 18 = .ok (.aload_n 0, 1) := dk_42 (dk_at dksX3_tightest_0 18 rfl rfl)
theorem dX3_tightest_19 : decode cX3_tightest 19 = .ok (.getfield 15, 3) := dk_180 0 15 (dk_at dksX3_tightest_0 19 rfl rfl)
theorem dX3_tightest_22 : decode cX3_tightest 22 = .ok (.iload_n 2, 1) := dk_28 (dk_at dksX3_tightest_0 22 rfl rfl)
theorem dX3_tightest_23 : decode cX3_tightest 23 = .ok (.iaload, 1) := dk_46 (dk_at dksX3_tightest_0 23 rfl rfl)
theorem dX3_tightest_24 : decode cX3_tightest 24 = .ok (.aload_n 0, 1) := dk_42 (dk_at dksX3_tightest_1 0 rfl rfl)
theorem dX3_tightest_25 : decode cX3_tightest 25 = .ok (.getfield 15, 3) := dk_180 0 15 (dk_at dksX3_tightest_1 1 rfl rfl)
theorem dX3_tightest_28 : decode cX3_tightest 28 = .ok (.iload_n 1, 1) := dk_27 (dk_at dksX3_tightest_1 4 rfl rfl)
theorem dX3_tightest_29 : decode cX3_tightest 29 = .ok (.iaload, 1) := dk_46 (dk_at dksX3_tightest_1 5 rfl rfl)
theorem dX3_tightest_30 : decode cX3_tightest 30 = .ok (.if_icmp .le 5, 3) := dk_164 0 5 (dk_at dksX3_tightest_1 6 rfl rfl)
theorem dX3_tightest_33 : decode cX3_tightest 33 = .ok (.iload_n 2, 1) := dk_28 (dk_at dksX3_tightest_1 9 rfl rfl)
theorem dX3_tightest_34 : decode cX3_tightest 34 = .ok (.istore_n 1, 1) := dk_60 (dk_at dksX3_tightest_1 10 rfl rfl)
theorem dX3_tightest_35 : decode cX3_tightest 35 = .ok (.iinc 2 1, 3) := dk_132 2 1 (dk_at dksX3_tightest_1 11 rfl rfl)
theorem dX3_tightest_38 : decode cX3_tightest 38 = .ok (.goto (-34), 3) := dk_167 255 222 (dk_at dksX3_tightest_1 14 rfl rfl)
theorem dX3_tightest_41 : decode cX3_tightest 41 = .ok (.iload_n 1, 1) := dk_27 (dk_at dksX3_tightest_1 17 rfl rfl)
theorem dX3_tightest_42 : decode cX3_tightest 42 = .ok (.ireturn, 1) := dk_172 (dk_at dksX3_tightest_1 18 rfl rfl)
abbrev cX1_later : ByteArray := prog_1_method_28_code
def yX1_later : MethodName := ⟨RX1, "later", "(II)I"⟩
def dkwX1_later_4 : List UInt8 := [42, 180, 0, 40, 182, 0, 138, 42, 180, 0, 44, 182, 0, 138, 100, 172]
abbrev dktX1_later_4 : List UInt8 := dkwX1_later_4 ++ []
def dkwX1_later_3 : List UInt8 := [180, 0, 44, 182, 0, 231, 46, 42, 180, 0, 44, 180, 0, 155, 42, 180, 0, 44, 182, 0, 234, 46, 100, 172]
abbrev dktX1_later_3 : List UInt8 := dkwX1_later_3 ++ dktX1_later_4
def dkwX1_later_2 : List UInt8 := [42, 180, 0, 44, 182, 0, 132, 172, 42, 180, 0, 44, 182, 0, 231, 172, 42, 180, 0, 44, 180, 0, 155, 42]
abbrev dktX1_later_2 : List UInt8 := dkwX1_later_2 ++ dktX1_later_3
def dkwX1_later_1 : List UInt8 := [170, 0, 0, 0, 0, 74, 0, 0, 0, 0, 0, 0, 0, 2, 0, 0, 0, 26, 0, 0, 0, 34, 0, 0, 0, 42]
abbrev dktX1_later_1 : List UInt8 := dkwX1_later_1 ++ dktX1_later_2
def dkwX1_later_0 : List UInt8 := [28, 6, 184, 0, 173, 27, 3, 16, 60, 184, 0, 144, 184, 0, 74, 42, 27, 182, 0, 228, 87, 28]
abbrev dktX1_later_0 : List UInt8 := dkwX1_later_0 ++ dktX1_later_1
theorem dksX1_later_0 : cX1_later.data.toList.drop 0 = dktX1_later_0 := by decide +kernel
theorem dksX1_later_1 : cX1_later.data.toList.drop 22 = dktX1_later_1 := dk_seg dksX1_later_0 22 rfl rfl
theorem dksX1_later_2 : cX1_later.data.toList.drop 48 = dktX1_later_2 := dk_seg dksX1_later_1 26 rfl rfl
theorem dksX1_later_3 : cX1_later.data.toList.drop 72 = dktX1_later_3 := dk_seg dksX1_later_2 24 rfl rfl
theorem dksX1_later_4 : cX1_later.data.toList.drop 96 = dktX1_later_4 := dk_seg dksX1_later_3 24 rfl rfl
theorem dX1_later_0 : decode cX1_later 0 = .ok (.iload_n 2, 1) := dk_28 (dk_at dksX1_later_0 0 rfl rfl)
theorem dX1_later_1 : decode cX1_later 1 = .ok (.iconst 3, 1) := dk_6 (dk_at dksX1_later_0 1 rfl rfl)
theorem dX1_later_2 : decode cX1_later 2 = .ok (.invokestatic 173, 3) := dk_184 0 173 (dk_at dksX1_later_0 2 rfl rfl)
theorem dX1_later_5 : decode cX1_later 5 = .ok (.iload_n 1, 1) := dk_27 (dk_at dksX1_later_0 5 rfl rfl)
theorem dX1_later_6 : decode cX1_later 6 = .ok (.iconst 0, 1) := dk_3 (dk_at dksX1_later_0 6 rfl rfl)
theorem dX1_later_7 : decode cX1_later 7 = .ok (.bipush 60, 2) := dk_16 60 (dk_at dksX1_later_0 7 rfl rfl)
theorem dX1_later_9 : decode cX1_later 9 = .ok (.invokestatic 144, 3) := dk_184 0 144 (dk_at dksX1_later_0 9 rfl rfl)
theorem dX1_later_12 : decode cX1_later 12 = .ok (.invokestatic 74, 3) := dk_184 0 74 (dk_at dksX1_later_0 12 rfl rfl)
theorem dX1_later_15 : decode cX1_later 15 = .ok (.aload_n 0, 1) := dk_42 (dk_at dksX1_later_0 15 rfl rfl)
theorem dX1_later_16 : decode cX1_later 16 = .ok (.iload_n 1, 1) := dk_27 (dk_at dksX1_later_0 16 rfl rfl)
theorem dX1_later_17 : decode cX1_later 17 = .ok (.invokevirtual 228, 3) := dk_182 0 228 (dk_at dksX1_later_0 17 rfl rfl)
theorem dX1_later_20 : decode cX1_later 20 = .ok (.pop, 1) := dk_87 (dk_at dksX1_later_0 20 rfl rfl)
theorem dX1_later_21 : decode cX1_later 21 = .ok (.iload_n 2, 1) := dk_28 (dk_at dksX1_later_0 21 rfl rfl)
theorem dX1_later_22 : decode cX1_later 22 = .ok (.tableswitch 74 0 2 #[26, 34, 42], 26) := by decide +kernel
theorem dX1_later_48 : decode cX1_later 48 = .ok (.aload_n 0, 1) := dk_42 (dk_at dksX1_later_2 0 rfl rfl)
theorem dX1_later_49 : decode cX1_later 49 = .ok (.getfield 44, 3) := dk_180 0 44 (dk_at dksX1_later_2 1 rfl rfl)
theorem dX1_later_52 : decode cX1_later 52 = .ok (.invokevirtual 132, 3) := dk_182 0 132 (dk_at dksX1_later_2 4 rfl rfl)
theorem dX1_later_55 : decode cX1_later 55 = .ok (.ireturn, 1) := dk_172 (dk_at dksX1_later_2 7 rfl rfl)
theorem dX1_later_56 : decode cX1_later 56 = .ok (.aload_n 0, 1) := dk_42 (dk_at dksX1_later_2 8 rfl rfl)
theorem dX1_later_57 : decode cX1_later 57 = .ok (.getfield 44, 3) := dk_180 0 44 (dk_at dksX1_later_2 9 rfl rfl)
theorem dX1_later_60 : decode cX1_later 60 = .ok (.invokevirtual 231, 3) := dk_182 0 231 (dk_at dksX1_later_2 12 rfl rfl)
theorem dX1_later_63 : decode cX1_later 63 = .ok (.ireturn, 1) := dk_172 (dk_at dksX1_later_2 15 rfl rfl)
theorem dX1_later_64 : decode cX1_later 64 = .ok (.aload_n 0, 1) := dk_42 (dk_at dksX1_later_2 16 rfl rfl)
theorem dX1_later_65 : decode cX1_later 65 = .ok (.getfield 44, 3) := dk_180 0 44 (dk_at dksX1_later_2 17 rfl rfl)
theorem dX1_later_68 : decode cX1_later 68 = .ok (.getfield 155, 3) := dk_180 0 155 (dk_at dksX1_later_2 20 rfl rfl)
theorem dX1_later_71 : decode cX1_later 71 = .ok (.aload_n 0, 1) := dk_42 (dk_at dksX1_later_2 23 rfl rfl)
theorem dX1_later_72 : decode cX1_later 72 = .ok (.getfield 44, 3) := dk_180 0 44 (dk_at dksX1_later_3 0 rfl rfl)
theorem dX1_later_75 : decode cX1_later 75 = .ok (.invokevirtual 231, 3) := dk_182 0 231 (dk_at dksX1_later_3 3 rfl rfl)
theorem dX1_later_78 : decode cX1_later 78 = .ok (.iaload, 1) := dk_46 (dk_at dksX1_later_3 6 rfl rfl)
theorem dX1_later_79 : decode cX1_later 79 = .ok (.aload_n 0, 1) := dk_42 (dk_at dksX1_later_3 7 rfl rfl)
theorem dX1_later_80 : decode cX1_later 80 = .ok (.getfield 44, 3) := dk_180 0 44 (dk_at dksX1_later_3 8 rfl rfl)
theorem dX1_later_83 : decode cX1_later 83 = .ok (.getfield 155, 3) := dk_180 0 155 (dk_at dksX1_later_3 11 rfl rfl)
theorem dX1_later_86 : decode cX1_later 86 = .ok (.aload_n 0, 1) := dk_42 (dk_at dksX1_later_3 14 rfl rfl)
theorem dX1_later_87 : decode cX1_later 87 = .ok (.getfield 44, 3) := dk_180 0 44 (dk_at dksX1_later_3 15 rfl rfl)
theorem dX1_later_90 : decode cX1_later 90 = .ok (.invokevirtual 234, 3) := dk_182 0 234 (dk_at dksX1_later_3 18 rfl rfl)
theorem dX1_later_93 : decode cX1_later 93 = .ok (.iaload, 1) := dk_46 (dk_at dksX1_later_3 21 rfl rfl)
theorem dX1_later_94 : decode cX1_later 94 = .ok (.isub, 1) := dk_100 (dk_at dksX1_later_3 22 rfl rfl)
theorem dX1_later_95 : decode cX1_later 95 = .ok (.ireturn, 1) := dk_172 (dk_at dksX1_later_3 23 rfl rfl)
theorem dX1_later_96 : decode cX1_later 96 = .ok (.aload_n 0, 1) := dk_42 (dk_at dksX1_later_4 0 rfl rfl)
theorem dX1_later_97 : decode cX1_later 97 = .ok (.getfield 40, 3) := dk_180 0 40 (dk_at dksX1_later_4 1 rfl rfl)
theorem dX1_later_100 : decode cX1_later 100 = .ok (.invokevirtual 138, 3) := dk_182 0 138 (dk_at dksX1_later_4 4 rfl rfl)
theorem dX1_later_103 : decode cX1_later 103 = .ok (.aload_n 0, 1) := dk_42 (dk_at dksX1_later_4 7 rfl rfl)
theorem dX1_later_104 : decode cX1_later 104 = .ok (.getfield 44, 3) := dk_180 0 44 (dk_at dksX1_later_4 8 rfl rfl)
theorem dX1_later_107 : decode cX1_later 107 = .ok (.invokevirtual 138, 3) := dk_182 0 138 (dk_at dksX1_later_4 11 rfl rfl)
theorem dX1_later_110 : decode cX1_later 110 = .ok (.isub, 1) := dk_100 (dk_at dksX1_later_4 14 rfl rfl)
theorem dX1_later_111 : decode cX1_later 111 = .ok (.ireturn, 1) := dk_172 (dk_at dksX1_later_4 15 rfl rfl)
abbrev cX1_opens : ByteArray := prog_1_method_30_code
def yX1_opens : MethodName := ⟨RX1, "opens", "(I)I"⟩
def dkwX1_opens_0 : List UInt8 := [42, 27, 182, 0, 151, 42, 27, 182, 0, 240, 172]
abbrev dktX1_opens_0 : List UInt8 := dkwX1_opens_0 ++ []
theorem dksX1_opens_0 : cX1_opens.data.toList.drop 0 = dktX1_opens_0 := by decide +kernel
theorem dX1_opens_0 : decode cX1_opens 0 = .ok (.aload_n 0, 1) := dk_42 (dk_at dksX1_opens_0 0 rfl rfl)
theorem dX1_opens_1 : decode cX1_opens 1 = .ok (.iload_n 1, 1) := dk_27 (dk_at dksX1_opens_0 1 rfl rfl)
theorem dX1_opens_2 : decode cX1_opens 2 = .ok (.invokevirtual 151, 3) := dk_182 0 151 (dk_at dksX1_opens_0 2 rfl rfl)
theorem dX1_opens_5 : decode cX1_opens 5 = .ok (.aload_n 0, 1) := dk_42 (dk_at dksX1_opens_0 5 rfl rfl)
theorem dX1_opens_6 : decode cX1_opens 6 = .ok (.iload_n 1, 1) := dk_27 (dk_at dksX1_opens_0 6 rfl rfl)
theorem dX1_opens_7 : decode cX1_opens 7 = .ok (.invokevirtual 240, 3) := dk_182 0 240 (dk_at dksX1_opens_0 7 rfl rfl)
theorem dX1_opens_10 : decode cX1_opens 10 = .ok (.ireturn, 1) := dk_172 (dk_at dksX1_opens_0 10 rfl rfl)
abbrev cX1_where : ByteArray := prog_1_method_32_code
def yX1_where : MethodName := ⟨RX1, "where", "(III)I"⟩
def dkwX1_where_1 : List UInt8 := [42, 28, 182, 0, 228, 180, 0, 108, 27, 46, 167, 0, 13, 42, 28, 182, 0, 228, 180, 0, 105, 27, 46, 172]
abbrev dktX1_where_1 : List UInt8 := dkwX1_where_1 ++ []
def dkwX1_where_0 : List UInt8 := [42, 27, 182, 0, 170, 29, 4, 184, 0, 173, 28, 3, 16, 60, 184, 0, 144, 184, 0, 74, 29, 154, 0, 16]
abbrev dktX1_where_0 : List UInt8 := dkwX1_where_0 ++ dktX1_where_1
theorem dksX1_where_0 : cX1_where.data.toList.drop 0 = dktX1_where_0 := by decide +kernel
theorem dksX1_where_1 : cX1_where.data.toList.drop 24 = dktX1_where_1 := dk_seg dksX1_where_0 24 rfl rfl
theorem dX1_where_0 : decode cX1_where 0 = .ok (.aload_n 0, 1) := dk_42 (dk_at dksX1_where_0 0 rfl rfl)
theorem dX1_where_1 : decode cX1_where 1 = .ok (.iload_n 1, 1) := dk_27 (dk_at dksX1_where_0 1 rfl rfl)
theorem dX1_where_2 : decode cX1_where 2 = .ok (.invokevirtual 170, 3) := dk_182 0 170 (dk_at dksX1_where_0 2 rfl rfl)
theorem dX1_where_5 : decode cX1_where 5 = .ok (.iload_n 3, 1) := dk_29 (dk_at dksX1_where_0 5 rfl rfl)
theorem dX1_where_6 : decode cX1_where 6 = .ok (.iconst 1, 1) := dk_4 (dk_at dksX1_where_0 6 rfl rfl)
theorem dX1_where_7 : decode cX1_where 7 = .ok (.invokestatic 173, 3) := dk_184 0 173 (dk_at dksX1_where_0 7 rfl rfl)
theorem dX1_where_10 : decode cX1_where 10 = .ok (.iload_n 2, 1) := dk_28 (dk_at dksX1_where_0 10 rfl rfl)
theorem dX1_where_11 : decode cX1_where 11 = .ok (.iconst 0, 1) := dk_3 (dk_at dksX1_where_0 11 rfl rfl)
theorem dX1_where_12 : decode cX1_where 12 = .ok (.bipush 60, 2) := dk_16 60 (dk_at dksX1_where_0 12 rfl rfl)
theorem dX1_where_14 : decode cX1_where 14 = .ok (.invokestatic 144, 3) := dk_184 0 144 (dk_at dksX1_where_0 14 rfl rfl)
theorem dX1_where_17 : decode cX1_where 17 = .ok (.invokestatic 74, 3) := dk_184 0 74 (dk_at dksX1_where_0 17 rfl rfl)
theorem dX1_where_20 : decode cX1_where 20 = .ok (.iload_n 3, 1) := dk_29 (dk_at dksX1_where_0 20 rfl rfl)
theorem dX1_where_21 : decode cX1_where 21 = .ok (.ifCond .ne 16, 3) := dk_154 0 16 (dk_at dksX1_where_0 21 rfl rfl)
theorem dX1_where_24 : decode cX1_where 24 = .ok (.aload_n 0, 1) := dk_42 (dk_at dksX1_where_1 0 rfl rfl)
theorem dX1_where_25 : decode cX1_where 25 = .ok (.iload_n 2, 1) := dk_28 (dk_at dksX1_where_1 1 rfl rfl)
theorem dX1_where_26 : decode cX1_where 26 = .ok (.invokevirtual 228, 3) := dk_182 0 228 (dk_at dksX1_where_1 2 rfl rfl)
theorem dX1_where_29 : decode cX1_where 29 = .ok (.getfield 108, 3) := dk_180 0 108 (dk_at dksX1_where_1 5 rfl rfl)
theorem dX1_where_32 : decode cX1_where 32 = .ok (.iload_n 1, 1) := dk_27 (dk_at dksX1_where_1 8 rfl rfl)
theorem dX1_where_33 : decode cX1_where 33 = .ok (.iaload, 1) := dk_46 (dk_at dksX1_where_1 9 rfl rfl)
theorem dX1_where_34 : decode cX1_where 34 = .ok (.goto 13, 3) := dk_167 0 13 (dk_at dksX1_where_1 10 rfl rfl)
theorem dX1_where_37 : decode cX1_where 37 = .ok (.aload_n 0, 1) := dk_42 (dk_at dksX1_where_1 13 rfl rfl)
theorem dX1_where_38 : decode cX1_where 38 = .ok (.iload_n 2, 1) := dk_28 (dk_at dksX1_where_1 14 rfl rfl)
theorem dX1_where_39 : decode cX1_where 39 = .ok (.invokevirtual 228, 3) := dk_182 0 228 (dk_at dksX1_where_1 15 rfl rfl)
theorem dX1_where_42 : decode cX1_where 42 = .ok (.getfield 105, 3) := dk_180 0 105 (dk_at dksX1_where_1 18 rfl rfl)
theorem dX1_where_45 : decode cX1_where 45 = .ok (.iload_n 1, 1) := dk_27 (dk_at dksX1_where_1 21 rfl rfl)
theorem dX1_where_46 : decode cX1_where 46 = .ok (.iaload, 1) := dk_46 (dk_at dksX1_where_1 22 rfl rfl)
theorem dX1_where_47 : decode cX1_where 47 = .ok (.ireturn, 1) := dk_172 (dk_at dksX1_where_1 23 rfl rfl)
abbrev cX1_holds : ByteArray := prog_1_method_35_code
def yX1_holds : MethodName := ⟨RX1, "holds", "(II)Z"⟩
def dkwX1_holds_1 : List UInt8 := [132, 3, 1, 167, 255, 232, 4, 172]
abbrev dktX1_holds_1 : List UInt8 := dkwX1_holds_1 ++ []
def dkwX1_holds_0 : List UInt8 := [3, 62, 29, 28, 162, 0, 25, 42, 180, 0, 44, 182, 0, 237, 27, 182, 0, 213, 153, 0, 5, 3, 172]
abbrev dktX1_holds_0 : List UInt8 := dkwX1_holds_0 ++ dktX1_holds_1
theorem dksX1_holds_0 : cX1_holds.data.toList.drop 0 = dktX1_holds_0 := by decide +kernel
theorem dksX1_holds_1 : cX1_holds.data.toList.drop 23 = dktX1_holds_1 := dk_seg dksX1_holds_0 23 rfl rfl
theorem dX1_holds_0 : decode cX1_holds 0 = .ok (.iconst 0, 1) := dk_3 (dk_at dksX1_holds_0 0 rfl rfl)
theorem dX1_holds_1 : decode cX1_holds 1 = .ok (.istore_n 3, 1) := dk_62 (dk_at dksX1_holds_0 1 rfl rfl)
theorem dX1_holds_2 : decode cX1_holds 2 = .ok (.iload_n 3, 1) := dk_29 (dk_at dksX1_holds_0 2 rfl rfl)
theorem dX1_holds_3 : decode cX1_holds 3 = .ok (.iload_n 2, 1) := dk_28 (dk_at dksX1_holds_0 3 rfl rfl)
theorem dX1_holds_4 : decode cX1_holds 4 = .ok (.if_icmp .ge 25, 3) := dk_162 0 25 (dk_at dksX1_holds_0 4 rfl rfl)
theorem dX1_holds_7 : decode cX1_holds 7 = .ok (.aload_n 0, 1) := dk_42 (dk_at dksX1_holds_0 7 rfl rfl)
theorem dX1_holds_8 : decode cX1_holds 8 = .ok (.getfield 44, 3) := dk_180 0 44 (dk_at dksX1_holds_0 8 rfl rfl)
theorem dX1_holds_11 : decode cX1_holds 11 = .ok (.invokevirtual 237, 3) := dk_182 0 237 (dk_at dksX1_holds_0 11 rfl rfl)
theorem dX1_holds_14 : decode cX1_holds 14 = .ok (.iload_n 1, 1) := dk_27 (dk_at dksX1_holds_0 14 rfl rfl)
theorem dX1_holds_15 : decode cX1_holds 15 = .ok (.invokevirtual 213, 3) := dk_182 0 213 (dk_at dksX1_holds_0 15 rfl rfl)
theorem dX1_holds_18 : decode cX1_holds 18 = .ok (.ifCond .eq 5, 3) := dk_153 0 5 (dk_at dksX1_holds_0 18 rfl rfl)
theorem dX1_holds_21 : decode cX1_holds 21 = .ok (.iconst 0, 1) := dk_3 (dk_at dksX1_holds_0 21 rfl rfl)
theorem dX1_holds_22 : decode cX1_holds 22 = .ok (.ireturn, 1) := dk_172 (dk_at dksX1_holds_0 22 rfl rfl)
theorem dX1_holds_23 : decode cX1_holds 23 = .ok (.iinc 3 1, 3) := dk_132 3 1 (dk_at dksX1_holds_1 0 rfl rfl)
theorem dX1_holds_26 : decode cX1_holds 26 = .ok (.goto (-24), 3) := dk_167 255 232 (dk_at dksX1_holds_1 3 rfl rfl)
theorem dX1_holds_29 : decode cX1_holds 29 = .ok (.iconst 1, 1) := dk_4 (dk_at dksX1_holds_1 6 rfl rfl)
theorem dX1_holds_30 : decode cX1_holds 30 = .ok (.ireturn, 1) := dk_172 (dk_at dksX1_holds_1 7 rfl rfl)
abbrev cX1_toHold : ByteArray := prog_1_method_36_code
def yX1_toHold : MethodName := ⟨RX1, "toHold", "(II)I"⟩
def dkwX1_toHold_3 : List UInt8 := [172, 132, 3, 1, 167, 255, 199, 2, 172]
abbrev dktX1_toHold_3 : List UInt8 := dkwX1_toHold_3 ++ []
def dkwX1_toHold_2 : List UInt8 := [180, 0, 44, 180, 0, 158, 27, 46, 29, 96, 184, 0, 10, 79, 42, 27, 28, 182, 0, 248, 153, 0, 5, 29]
abbrev dktX1_toHold_2 : List UInt8 := dkwX1_toHold_2 ++ dktX1_toHold_3
def dkwX1_toHold_1 : List UInt8 := [180, 0, 44, 42, 180, 0, 40, 182, 0, 224, 87, 42, 180, 0, 44, 180, 0, 158, 27, 16, 99, 42]
abbrev dktX1_toHold_1 : List UInt8 := dkwX1_toHold_1 ++ dktX1_toHold_2
def dkwX1_toHold_0 : List UInt8 := [42, 27, 182, 0, 151, 28, 4, 16, 60, 184, 0, 144, 184, 0, 74, 3, 62, 29, 16, 99, 163, 0, 57, 42]
abbrev dktX1_toHold_0 : List UInt8 := dkwX1_toHold_0 ++ dktX1_toHold_1
theorem dksX1_toHold_0 : cX1_toHold.data.toList.drop 0 = dktX1_toHold_0 := by decide +kernel
theorem dksX1_toHold_1 : cX1_toHold.data.toList.drop 24 = dktX1_toHold_1 := dk_seg dksX1_toHold_0 24 rfl rfl
theorem dksX1_toHold_2 : cX1_toHold.data.toList.drop 46 = dktX1_toHold_2 := dk_seg dksX1_toHold_1 22 rfl rfl
theorem dksX1_toHold_3 : cX1_toHold.data.toList.drop 70 = dktX1_toHold_3 := dk_seg dksX1_toHold_2 24 rfl rfl
theorem dX1_toHold_0 : decode cX1_toHold 0 = .ok (.aload_n 0, 1) := dk_42 (dk_at dksX1_toHold_0 0 rfl rfl)
theorem dX1_toHold_1 : decode cX1_toHold 1 = .ok (.iload_n 1, 1) := dk_27 (dk_at dksX1_toHold_0 1 rfl rfl)
theorem dX1_toHold_2 : decode cX1_toHold 2 = .ok (.invokevirtual 151, 3) := dk_182 0 151 (dk_at dksX1_toHold_0 2 rfl rfl)
theorem dX1_toHold_5 : decode cX1_toHold 5 = .ok (.iload_n 2, 1) := dk_28 (dk_at dksX1_toHold_0 5 rfl rfl)
theorem dX1_toHold_6 : decode cX1_toHold 6 = .ok (.iconst 1, 1) := dk_4 (dk_at dksX1_toHold_0 6 rfl rfl)
theorem dX1_toHold_7 : decode cX1_toHold 7 = .ok (.bipush 60, 2) := dk_16 60 (dk_at dksX1_toHold_0 7 rfl rfl)
theorem dX1_toHold_9 : decode cX1_toHold 9 = .ok (.invokestatic 144, 3) := dk_184 0 144 (dk_at dksX1_toHold_0 9 rfl rfl)
theorem dX1_toHold_12 : decode cX1_toHold 12 = .ok (.invokestatic 74, 3) := dk_184 0 74 (dk_at dksX1_toHold_0 12 rfl rfl)
theorem dX1_toHold_15 : decode cX1_toHold 15 = .ok (.iconst 0, 1) := dk_3 (dk_at dksX1_toHold_0 15 rfl rfl)
theorem dX1_toHold_16 : decode cX1_toHold 16 = .ok (.istore_n 3, 1) := dk_62 (dk_at dksX1_toHold_0 16 rfl rfl)
theorem dX1_toHold_17 : decode cX1_toHold 17 = .ok (.iload_n 3, 1) := dk_29 (dk_at dksX1_toHold_0 17 rfl rfl)
theorem dX1_toHold_18 : decode cX1_toHold 18 = .ok (.bipush 99, 2) := dk_16 99 (dk_at dksX1_toHold_0 18 rfl rfl)
theorem dX1_toHold_20 : decode cX1_toHold 20 = .ok (.if_icmp .gt 57, 3) := dk_163 0 57 (dk_at dksX1_toHold_0 20 rfl rfl)
theorem dX1_toHold_23 : decode cX1_toHold 23 = .ok (.aload_n 0, 1) := dk_42 (dk_at dksX1_toHold_0 23 rfl rfl)
theorem dX1_toHold_24 : decode cX1_toHold 24 = .ok (.getfield 44, 3) := dk_180 0 44 (dk_at dksX1_toHold_1 0 rfl rfl)
theorem dX1_toHold_27 : decode cX1_toHold 27 = .ok (.aload_n 0, 1) := dk_42 (dk_at dksX1_toHold_1 3 rfl rfl)
theorem dX1_toHold_28 : decode cX1_toHold 28 = .ok (.getfield 40, 3) := dk_180 0 40 (dk_at dksX1_toHold_1 4 rfl rfl)
theorem dX1_toHold_31 : decode cX1_toHold 31 = .ok (.invokevirtual 224, 3) := dk_182 0 224 (dk_at dksX1_toHold_1 7 rfl rfl)
theorem dX1_toHold_34 : decode cX1_toHold 34 = .ok (.pop, 1) := dk_87 (dk_at dksX1_toHold_1 10 rfl rfl)
theorem dX1_toHold_35 : decode cX1_toHold 35 = .ok (.aload_n 0, 1) := dk_42 (dk_at dksX1_toHold_1 11 rfl rfl)
theorem dX1_toHold_36 : decode cX1_toHold 36 = .ok (.getfield 44, 3) := dk_180 0 44 (dk_at dksX1_toHold_1 12 rfl rfl)
theorem dX1_toHold_39 : decode cX1_toHold 39 = .ok (.getfield 158, 3) := dk_180 0 158 (dk_at dksX1_toHold_1 15 rfl rfl)
theorem dX1_toHold_42 : decode cX1_toHold 42 = .ok (.iload_n 1, 1) := dk_27 (dk_at dksX1_toHold_1 18 rfl rfl)
theorem dX1_toHold_43 : decode cX1_toHold 43 = .ok (.bipush 99, 2) := dk_16 99 (dk_at dksX1_toHold_1 19 rfl rfl)
theorem dX1_toHold_45 : decode cX1_toHold 45 = .ok (.aload_n 0, 1) := dk_42 (dk_at dksX1_toHold_1 21 rfl rfl)
theorem dX1_toHold_46 : decode cX1_toHold 46 = .ok (.getfield 44, 3) := dk_180 0 44 (dk_at dksX1_toHold_2 0 rfl rfl)
theorem dX1_toHold_49 : decode cX1_toHold 49 = .ok (.getfield 158, 3) := dk_180 0 158 (dk_at dksX1_toHold_2 3 rfl rfl)
theorem dX1_toHold_52 : decode cX1_toHold 52 = .ok (.iload_n 1, 1) := dk_27 (dk_at dksX1_toHold_2 6 rfl rfl)
theorem dX1_toHold_53 : decode cX1_toHold 53 = .ok (.iaload, 1) := dk_46 (dk_at dksX1_toHold_2 7 rfl rfl)
theorem dX1_toHold_54 : decode cX1_toHold 54 = .ok (.iload_n 3, 1) := dk_29 (dk_at dksX1_toHold_2 8 rfl rfl)
theorem dX1_toHold_55 : decode cX1_toHold 55 = .ok (.iadd, 1) := dk_96 (dk_at dksX1_toHold_2 9 rfl rfl)
theorem dX1_toHold_56 : decode cX1_toHold 56 = .ok (.invokestatic 10, 3) := dk_184 0 10 (dk_at dksX1_toHold_2 10 rfl rfl)
theorem dX1_toHold_59 : decode cX1_toHold 59 = .ok (.iastore, 1) := dk_79 (dk_at dksX1_toHold_2 13 rfl rfl)
theorem dX1_toHold_60 : decode cX1_toHold 60 = .ok (.aload_n 0, 1) := dk_42 (dk_at dksX1_toHold_2 14 rfl rfl)
theorem dX1_toHold_61 : decode cX1_toHold 61 = .ok (.iload_n 1, 1) := dk_27 (dk_at dksX1_toHold_2 15 rfl rfl)
theorem dX1_toHold_62 : decode cX1_toHold 62 = .ok (.iload_n 2, 1) := dk_28 (dk_at dksX1_toHold_2 16 rfl rfl)
theorem dX1_toHold_63 : decode cX1_toHold 63 = .ok (.invokevirtual 248, 3) := dk_182 0 248 (dk_at dksX1_toHold_2 17 rfl rfl)
theorem dX1_toHold_66 : decode cX1_toHold 66 = .ok (.ifCond .eq 5, 3) := dk_153 0 5 (dk_at dksX1_toHold_2 20 rfl rfl)
theorem dX1_toHold_69 : decode cX1_toHold 69 = .ok (.iload_n 3, 1) := dk_29 (dk_at dksX1_toHold_2 23 rfl rfl)
theorem dX1_toHold_70 : decode cX1_toHold 70 = .ok (.ireturn, 1) := dk_172 (dk_at dksX1_toHold_3 0 rfl rfl)
theorem dX1_toHold_71 : decode cX1_toHold 71 = .ok (.iinc 3 1, 3) := dk_132 3 1 (dk_at dksX1_toHold_3 1 rfl rfl)
theorem dX1_toHold_74 : decode cX1_toHold 74 = .ok (.goto (-57), 3) := dk_167 255 199 (dk_at dksX1_toHold_3 4 rfl rfl)
theorem dX1_toHold_77 : decode cX1_toHold 77 = .ok (.iconst (-1), 1) := dk_2 (dk_at dksX1_toHold_3 7 rfl rfl)
theorem dX1_toHold_78 : decode cX1_toHold 78 = .ok (.ireturn, 1) := dk_172 (dk_at dksX1_toHold_3 8 rfl rfl)
abbrev cX3_openMany : ByteArray := prog_4_method_17_code
def yX3_openMany : MethodName := ⟨RX3, "openMany", "()I"⟩
def dkwX3_openMany_0 : List UInt8 := [42, 182, 0, 151, 184, 0, 71, 172]
abbrev dktX3_openMany_0 : List UInt8 := dkwX3_openMany_0 ++ []
theorem dksX3_openMany_0 : cX3_openMany.data.toList.drop 0 = dktX3_openMany_0 := by decide +kernel
theorem dX3_openMany_0 : decode cX3_openMany 0 = .ok (.aload_n 0, 1) := dk_42 (dk_at dksX3_openMany_0 0 rfl rfl)
theorem dX3_openMany_1 : decode cX3_openMany 1 = .ok (.invokevirtual 151, 3) := dk_182 0 151 (dk_at dksX3_openMany_0 1 rfl rfl)
theorem dX3_openMany_4 : decode cX3_openMany 4 = .ok (.invokestatic 71, 3) := dk_184 0 71 (dk_at dksX3_openMany_0 4 rfl rfl)
theorem dX3_openMany_7 : decode cX3_openMany 7 = .ok (.ireturn, 1) := dk_172 (dk_at dksX3_openMany_0 7 rfl rfl)
abbrev cX1_toSend : ByteArray := prog_1_method_37_code
def yX1_toSend : MethodName := ⟨RX1, "toSend", "(III)I"⟩
def dkwX1_toSend_4 : List UInt8 := [167, 255, 192, 29, 154, 0, 8, 21, 4, 167, 0, 5, 21, 5, 172]
abbrev dktX1_toSend_4 : List UInt8 := dkwX1_toSend_4 ++ []
def dkwX1_toSend_3 : List UInt8 := [54, 7, 21, 7, 21, 5, 161, 0, 6, 167, 0, 11, 21, 6, 54, 4, 21, 7, 54, 5, 132, 6, 1]
abbrev dktX1_toSend_3 : List UInt8 := dkwX1_toSend_3 ++ dktX1_toSend_4
def dkwX1_toSend_2 : List UInt8 := [180, 0, 40, 182, 0, 224, 180, 0, 108, 27, 21, 6, 79, 42, 180, 0, 44, 28, 182, 0, 206, 182, 0, 252]
abbrev dktX1_toSend_2 : List UInt8 := dkwX1_toSend_2 ++ dktX1_toSend_3
def dkwX1_toSend_1 : List UInt8 := [18, 243, 54, 5, 3, 54, 6, 21, 6, 42, 180, 0, 31, 180, 0, 115, 162, 0, 58, 42, 180, 0, 44, 42]
abbrev dktX1_toSend_1 : List UInt8 := dkwX1_toSend_1 ++ dktX1_toSend_2
def dkwX1_toSend_0 : List UInt8 := [42, 27, 182, 0, 170, 29, 4, 184, 0, 173, 28, 4, 16, 60, 184, 0, 144, 184, 0, 74, 2, 54, 4]
abbrev dktX1_toSend_0 : List UInt8 := dkwX1_toSend_0 ++ dktX1_toSend_1
theorem dksX1_toSend_0 : cX1_toSend.data.toList.drop 0 = dktX1_toSend_0 := by decide +kernel
theorem dksX1_toSend_1 : cX1_toSend.data.toList.drop 23 = dktX1_toSend_1 := dk_seg dksX1_toSend_0 23 rfl rfl
theorem dksX1_toSend_2 : cX1_toSend.data.toList.drop 47 = dktX1_toSend_2 := dk_seg dksX1_toSend_1 24 rfl rfl
theorem dksX1_toSend_3 : cX1_toSend.data.toList.drop 71 = dktX1_toSend_3 := dk_seg dksX1_toSend_2 24 rfl rfl
theorem dksX1_toSend_4 : cX1_toSend.data.toList.drop 94 = dktX1_toSend_4 := dk_seg dksX1_toSend_3 23 rfl rfl
theorem dX1_toSend_0 : decode cX1_toSend 0 = .ok (.aload_n 0, 1) := dk_42 (dk_at dksX1_toSend_0 0 rfl rfl)
theorem dX1_toSend_1 : decode cX1_toSend 1 = .ok (.iload_n 1, 1) := dk_27 (dk_at dksX1_toSend_0 1 rfl rfl)
theorem dX1_toSend_2 : decode cX1_toSend 2 = .ok (.invokevirtual 170, 3) := dk_182 0 170 (dk_at dksX1_toSend_0 2 rfl rfl)
theorem dX1_toSend_5 : decode cX1_toSend 5 = .ok (.iload_n 3, 1) := dk_29 (dk_at dksX1_toSend_0 5 rfl rfl)
theorem dX1_toSend_6 : decode cX1_toSend 6 = .ok (.iconst 1, 1) := dk_4 (dk_at dksX1_toSend_0 6 rfl rfl)
theorem dX1_toSend_7 : decode cX1_toSend 7 = .ok (.invokestatic 173, 3) := dk_184 0 173 (dk_at dksX1_toSend_0 7 rfl rfl)
theorem dX1_toSend_10 : decode cX1_toSend 10 = .ok (.iload_n 2, 1) := dk_28 (dk_at dksX1_toSend_0 10 rfl rfl)
theorem dX1_toSend_11 : decode cX1_toSend 11 = .ok (.iconst 1, 1) := dk_4 (dk_at dksX1_toSend_0 11 rfl rfl)
theorem dX1_toSend_12 : decode cX1_toSend 12 = .ok (.bipush 60, 2) := dk_16 60 (dk_at dksX1_toSend_0 12 rfl rfl)
theorem dX1_toSend_14 : decode cX1_toSend 14 = .ok (.invokestatic 144, 3) := dk_184 0 144 (dk_at dksX1_toSend_0 14 rfl rfl)
theorem dX1_toSend_17 : decode cX1_toSend 17 = .ok (.invokestatic 74, 3) := dk_184 0 74 (dk_at dksX1_toSend_0 17 rfl rfl)
theorem dX1_toSend_20 : decode cX1_toSend 20 = .ok (.iconst (-1), 1) := dk_2 (dk_at dksX1_toSend_0 20 rfl rfl)
theorem dX1_toSend_21 : decode cX1_toSend 21 = .ok (.istore 4, 2) := dk_54 4 (dk_at dksX1_toSend_0 21 rfl rfl)
theorem dX1_toSend_23 : decode cX1_toSend 23 = .ok (.ldc 243, 2) := dk_18 243 (dk_at dksX1_toSend_1 0 rfl rfl)
theorem dX1_toSend_25 : decode cX1_toSend 25 = .ok (.istore 5, 2) := dk_54 5 (dk_at dksX1_toSend_1 2 rfl rfl)
theorem dX1_toSend_27 : decode cX1_toSend 27 = .ok (.iconst 0, 1) := dk_3 (dk_at dksX1_toSend_1 4 rfl rfl)
theorem dX1_toSend_28 : decode cX1_toSend 28 = .ok (.istore 6, 2) := dk_54 6 (dk_at dksX1_toSend_1 5 rfl rfl)
theorem dX1_toSend_30 : decode cX1_toSend 30 = .ok (.iload 6, 2) := dk_21 6 (dk_at dksX1_toSend_1 7 rfl rfl)
theorem dX1_toSend_32 : decode cX1_toSend 32 = .ok (.aload_n 0, 1) := dk_42 (dk_at dksX1_toSend_1 9 rfl rfl)
theorem dX1_toSend_33 : decode cX1_toSend 33 = .ok (.getfield 31, 3) := dk_180 0 31 (dk_at dksX1_toSend_1 10 rfl rfl)
theorem dX1_toSend_36 : decode cX1_toSend 36 = .ok (.getfield 115, 3) := dk_180 0 115 (dk_at dksX1_toSend_1 13 rfl rfl)
theorem dX1_toSend_39 : decode cX1_toSend 39 = .ok (.if_icmp .ge 58, 3) := dk_162 0 58 (dk_at dksX1_toSend_1 16 rfl rfl)
theorem dX1_toSend_42 : decode cX1_toSend 42 = .ok (.aload_n 0, 1) := dk_42 (dk_at dksX1_toSend_1 19 rfl rfl)
theorem dX1_toSend_43 : decode cX1_toSend 43 = .ok (.getfield 44, 3) := dk_180 0 44 (dk_at dksX1_toSend_1 20 rfl rfl)
theorem dX1_toSend_46 : decode cX1_toSend 46 = .ok (.aload_n 0, 1) := dk_42 (dk_at dksX1_toSend_1 23 rfl rfl)
theorem dX1_toSend_47 : decode cX1_toSend 47 = .ok (.getfield 40, 3) := dk_180 0 40 (dk_at dksX1_toSend_2 0 rfl rfl)
theorem dX1_toSend_50 : decode cX1_toSend 50 = .ok (.invokevirtual 224, 3) := dk_182 0 224 (dk_at dksX1_toSend_2 3 rfl rfl)
theorem dX1_toSend_53 : decode cX1_toSend 53 = .ok (.getfield 108, 3) := dk_180 0 108 (dk_at dksX1_toSend_2 6 rfl rfl)
theorem dX1_toSend_56 : decode cX1_toSend 56 = .ok (.iload_n 1, 1) := dk_27 (dk_at dksX1_toSend_2 9 rfl rfl)
theorem dX1_toSend_57 : decode cX1_toSend 57 = .ok (.iload 6, 2) := dk_21 6 (dk_at dksX1_toSend_2 10 rfl rfl)
theorem dX1_toSend_59 : decode cX1_toSend 59 = .ok (.iastore, 1) := dk_79 (dk_at dksX1_toSend_2 12 rfl rfl)
theorem dX1_toSend_60 : decode cX1_toSend 60 = .ok (.aload_n 0, 1) := dk_42 (dk_at dksX1_toSend_2 13 rfl rfl)
theorem dX1_toSend_61 : decode cX1_toSend 61 = .ok (.getfield 44, 3) := dk_180 0 44 (dk_at dksX1_toSend_2 14 rfl rfl)
theorem dX1_toSend_64 : decode cX1_toSend 64 = .ok (.iload_n 2, 1) := dk_28 (dk_at dksX1_toSend_2 17 rfl rfl)
theorem dX1_toSend_65 : decode cX1_toSend 65 = .ok (.invokevirtual 206, 3) := dk_182 0 206 (dk_at dksX1_toSend_2 18 rfl rfl)
theorem dX1_toSend_68 : decode cX1_toSend 68 = .ok (.invokevirtual 252, 3) := dk_182 0 252 (dk_at dksX1_toSend_2 21 rfl rfl)
theorem dX1_toSend_71 : decode cX1_toSend 71 = .ok (.istore 7, 2) := dk_54 7 (dk_at dksX1_toSend_3 0 rfl rfl)
theorem dX1_toSend_73 : decode cX1_toSend 73 = .ok (.iload 7, 2) := dk_21 7 (dk_at dksX1_toSend_3 2 rfl rfl)
theorem dX1_toSend_75 : decode cX1_toSend 75 = .ok (.iload 5, 2) := dk_21 5 (dk_at dksX1_toSend_3 4 rfl rfl)
theorem dX1_toSend_77 : decode cX1_toSend 77 = .ok (.if_icmp .lt 6, 3) := dk_161 0 6 (dk_at dksX1_toSend_3 6 rfl rfl)
theorem dX1_toSend_80 : decode cX1_toSend 80 = .ok (.goto 11, 3) := dk_167 0 11 (dk_at dksX1_toSend_3 9 rfl rfl)
theorem dX1_toSend_83 : decode cX1_toSend 83 = .ok (.iload 6, 2) := dk_21 6 (dk_at dksX1_toSend_3 12 rfl rfl)
theorem dX1_toSend_85 : decode cX1_toSend 85 = .ok (.istore 4, 2) := dk_54 4 (dk_at dksX1_toSend_3 14 rfl rfl)
theorem dX1_toSend_87 : decode cX1_toSend 87 = .ok (.iload 7, 2) := dk_21 7 (dk_at dksX1_toSend_3 16 rfl rfl)
theorem dX1_toSend_89 : decode cX1_toSend 89 = .ok (.istore 5, 2) := dk_54 5 (dk_at dksX1_toSend_3 18 rfl rfl)
theorem dX1_toSend_91 : decode cX1_toSend 91 = .ok (.iinc 6 1, 3) := dk_132 6 1 (dk_at dksX1_toSend_3 20 rfl rfl)
theorem dX1_toSend_94 : decode cX1_toSend 94 = .ok (.goto (-64), 3) := dk_167 255 192 (dk_at dksX1_toSend_4 0 rfl rfl)
theorem dX1_toSend_97 : decode cX1_toSend 97 = .ok (.iload_n 3, 1) := dk_29 (dk_at dksX1_toSend_4 3 rfl rfl)
theorem dX1_toSend_98 : decode cX1_toSend 98 = .ok (.ifCond .ne 8, 3) := dk_154 0 8 (dk_at dksX1_toSend_4 4 rfl rfl)
theorem dX1_toSend_101 : decode cX1_toSend 101 = .ok (.iload 4, 2) := dk_21 4 (dk_at dksX1_toSend_4 7 rfl rfl)
theorem dX1_toSend_103 : decode cX1_toSend 103 = .ok (.goto 5, 3) := dk_167 0 5 (dk_at dksX1_toSend_4 9 rfl rfl)
theorem dX1_toSend_106 : decode cX1_toSend 106 = .ok (.iload 5, 2) := dk_21 5 (dk_at dksX1_toSend_4 12 rfl rfl)
theorem dX1_toSend_108 : decode cX1_toSend 108 = .ok (.ireturn, 1) := dk_172 (dk_at dksX1_toSend_4 14 rfl rfl)
abbrev cX1_bestStitch : ByteArray := prog_1_method_38_code
def yX1_bestStitch : MethodName := ⟨RX1, "bestStitch", "(II)I"⟩
def dkwX1_bestStitch_3 : List UInt8 := [167, 0, 10, 21, 5, 62, 21, 6, 54, 4, 132, 5, 1, 167, 255, 197, 29, 172]
abbrev dktX1_bestStitch_3 : List UInt8 := dkwX1_bestStitch_3 ++ []
def dkwX1_bestStitch_2 : List UInt8 := [42, 180, 0, 44, 28, 182, 0, 206, 180, 0, 158, 27, 46, 54, 6, 21, 6, 21, 4, 163, 0, 6]
abbrev dktX1_bestStitch_2 : List UInt8 := dkwX1_bestStitch_2 ++ dktX1_bestStitch_3
def dkwX1_bestStitch_1 : List UInt8 := [21, 5, 6, 162, 0, 59, 42, 180, 0, 44, 42, 180, 0, 40, 182, 0, 224, 180, 0, 161, 27, 21, 5, 79]
abbrev dktX1_bestStitch_1 : List UInt8 := dkwX1_bestStitch_1 ++ dktX1_bestStitch_2
def dkwX1_bestStitch_0 : List UInt8 := [42, 27, 182, 0, 151, 28, 4, 16, 60, 184, 0, 144, 184, 0, 74, 2, 62, 2, 54, 4, 3, 54, 5]
abbrev dktX1_bestStitch_0 : List UInt8 := dkwX1_bestStitch_0 ++ dktX1_bestStitch_1
theorem dksX1_bestStitch_0 : cX1_bestStitch.data.toList.drop 0 = dktX1_bestStitch_0 := by decide +kernel
theorem dksX1_bestStitch_1 : cX1_bestStitch.data.toList.drop 23 = dktX1_bestStitch_1 := dk_seg dksX1_bestStitch_0 23 rfl rfl
theorem dksX1_bestStitch_2 : cX1_bestStitch.data.toList.drop 47 = dktX1_bestStitch_2 := dk_seg dksX1_bestStitch_1 24 rfl rfl
theorem dksX1_bestStitch_3 : cX1_bestStitch.data.toList.drop 69 = dktX1_bestStitch_3 := dk_seg dksX1_bestStitch_2 22 rfl rfl
theorem dX1_bestStitch_0 : decode cX1_bestStitch 0 = .ok (.aload_n 0, 1) := dk_42 (dk_at dksX1_bestStitch_0 0 rfl rfl)
theorem dX1_bestStitch_1 : decode cX1_bestStitch 1 = .ok (.iload_n 1, 1) := dk_27 (dk_at dksX1_bestStitch_0 1 rfl rfl)
theorem dX1_bestStitch_2 : decode cX1_bestStitch 2 = .ok (.invokevirtual 151, 3) := dk_182 0 151 (dk_at dksX1_bestStitch_0 2 rfl rfl)
theorem dX1_bestStitch_5 : decode cX1_bestStitch 5 = .ok (.iload_n 2, 1) := dk_28 (dk_at dksX1_bestStitch_0 5 rfl rfl)
theorem dX1_bestStitch_6 : decode cX1_bestStitch 6 = .ok (.iconst 1, 1) := dk_4 (dk_at dksX1_bestStitch_0 6 rfl rfl)
theorem dX1_bestStitch_7 : decode cX1_bestStitch 7 = .ok (.bipush 60, 2) := dk_16 60 (dk_at dksX1_bestStitch_0 7 rfl rfl)
theorem dX1_bestStitch_9 : decode cX1_bestStitch 9 = .ok (.invokestatic 144, 3) := dk_184 0 144 (dk_at dksX1_bestStitch_0 9 rfl rfl)
theorem dX1_bestStitch_12 : decode cX1_bestStitch 12 = .ok (.invokestatic 74, 3) := dk_184 0 74 (dk_at dksX1_bestStitch_0 12 rfl rfl)
theorem dX1_bestStitch_15 : decode cX1_bestStitch 15 = .ok (.iconst (-1), 1) := dk_2 (dk_at dksX1_bestStitch_0 15 rfl rfl)
theorem dX1_bestStitch_16 : decode cX1_bestStitch 16 = .ok (.istore_n 3, 1) := dk_62 (dk_at dksX1_bestStitch_0 16 rfl rfl)
theorem dX1_bestStitch_17 : decode cX1_bestStitch 17 = .ok (.iconst (-1), 1) := dk_2 (dk_at dksX1_bestStitch_0 17 rfl rfl)
theorem dX1_bestStitch_18 : decode cX1_bestStitch 18 = .ok (.istore 4, 2) := dk_54 4 (dk_at dksX1_bestStitch_0 18 rfl rfl)
theorem dX1_bestStitch_20 : decode cX1_bestStitch 20 = .ok (.iconst 0, 1) := dk_3 (dk_at dksX1_bestStitch_0 20 rfl rfl)
theorem dX1_bestStitch_21 : decode cX1_bestStitch 21 = .ok (.istore 5, 2) := dk_54 5 (dk_at dksX1_bestStitch_0 21 rfl rfl)
theorem dX1_bestStitch_23 : decode cX1_bestStitch 23 = .ok (.iload 5, 2) := dk_21 5 (dk_at dksX1_bestStitch_1 0 rfl rfl)
theorem dX1_bestStitch_25 : decode cX1_bestStitch 25 = .ok (.iconst 3, 1) := dk_6 (dk_at dksX1_bestStitch_1 2 rfl rfl)
theorem dX1_bestStitch_26 : decode cX1_bestStitch 26 = .ok (.if_icmp .ge 59, 3) := dk_162 0 59 (dk_at dksX1_bestStitch_1 3 rfl rfl)
theorem dX1_bestStitch_29 : decode cX1_bestStitch 29 = .ok (.aload_n 0, 1) := dk_42 (dk_at dksX1_bestStitch_1 6 rfl rfl)
theorem dX1_bestStitch_30 : decode cX1_bestStitch 30 = .ok (.getfield 44, 3) := dk_180 0 44 (dk_at dksX1_bestStitch_1 7 rfl rfl)
theorem dX1_bestStitch_33 : decode cX1_bestStitch 33 = .ok (.aload_n 0, 1) := dk_42 (dk_at dksX1_bestStitch_1 10 rfl rfl)
theorem dX1_bestStitch_34 : decode cX1_bestStitch 34 = .ok (.getfield 40, 3) := dk_180 0 40 (dk_at dksX1_bestStitch_1 11 rfl rfl)
theorem dX1_bestStitch_37 : decode cX1_bestStitch 37 = .ok (.invokevirtual 224, 3) := dk_182 0 224 (dk_at dksX1_bestStitch_1 14 rfl rfl)
theorem dX1_bestStitch_40 : decode cX1_bestStitch 40 = .ok (.getfield 161, 3) := dk_180 0 161 (dk_at dksX1_bestStitch_1 17 rfl rfl)
theorem dX1_bestStitch_43 : decode cX1_bestStitch 43 = .ok (.iload_n 1, 1) := dk_27 (dk_at dksX1_bestStitch_1 20 rfl rfl)
theorem dX1_bestStitch_44 : decode cX1_bestStitch 44 = .ok (.iload 5, 2) := dk_21 5 (dk_at dksX1_bestStitch_1 21 rfl rfl)
theorem dX1_bestStitch_46 : decode cX1_bestStitch 46 = .ok (.iastore, 1) := dk_79 (dk_at dksX1_bestStitch_1 23 rfl rfl)
theorem dX1_bestStitch_47 : decode cX1_bestStitch 47 = .ok (.aload_n 0, 1) := dk_42 (dk_at dksX1_bestStitch_2 0 rfl rfl)
theorem dX1_bestStitch_48 : decode cX1_bestStitch 48 = .ok (.getfield 44, 3) := dk_180 0 44 (dk_at dksX1_bestStitch_2 1 rfl rfl)
theorem dX1_bestStitch_51 : decode cX1_bestStitch 51 = .ok (.iload_n 2, 1) := dk_28 (dk_at dksX1_bestStitch_2 4 rfl rfl)
theorem dX1_bestStitch_52 : decode cX1_bestStitch 52 = .ok (.invokevirtual 206, 3) := dk_182 0 206 (dk_at dksX1_bestStitch_2 5 rfl rfl)
theorem dX1_bestStitch_55 : decode cX1_bestStitch 55 = .ok (.getfield 158, 3) := dk_180 0 158 (dk_at dksX1_bestStitch_2 8 rfl rfl)
theorem dX1_bestStitch_58 : decode cX1_bestStitch 58 = .ok (.iload_n 1, 1) := dk_27 (dk_at dksX1_bestStitch_2 11 rfl rfl)
theorem dX1_bestStitch_59 : decode cX1_bestStitch 59 = .ok (.iaload, 1) := dk_46 (dk_at dksX1_bestStitch_2 12 rfl rfl)
theorem dX1_bestStitch_60 : decode cX1_bestStitch 60 = .ok (.istore 6, 2) := dk_54 6 (dk_at dksX1_bestStitch_2 13 rfl rfl)
theorem dX1_bestStitch_62 : decode cX1_bestStitch 62 = .ok (.iload 6, 2) := dk_21 6 (dk_at dksX1_bestStitch_2 15 rfl rfl)
theorem dX1_bestStitch_64 : decode cX1_bestStitch 64 = .ok (.iload 4, 2) := dk_21 4 (dk_at dksX1_bestStitch_2 17 rfl rfl)
theorem dX1_bestStitch_66 : decode cX1_bestStitch 66 = .ok (.if_icmp .gt 6, 3) := dk_163 0 6 (dk_at dksX1_bestStitch_2 19 rfl rfl)
theorem dX1_bestStitch_69 : decode cX1_bestStitch 69 = .ok (.goto 10, 3) := dk_167 0 10 (dk_at dksX1_bestStitch_3 0 rfl rfl)
theorem dX1_bestStitch_72 : decode cX1_bestStitch 72 = .ok (.iload 5, 2) := dk_21 5 (dk_at dksX1_bestStitch_3 3 rfl rfl)
theorem dX1_bestStitch_74 : decode cX1_bestStitch 74 = .ok (.istore_n 3, 1) := dk_62 (dk_at dksX1_bestStitch_3 5 rfl rfl)
theorem dX1_bestStitch_75 : decode cX1_bestStitch 75 = .ok (.iload 6, 2) := dk_21 6 (dk_at dksX1_bestStitch_3 6 rfl rfl)
theorem dX1_bestStitch_77 : decode cX1_bestStitch 77 = .ok (.istore 4, 2) := dk_54 4 (dk_at dksX1_bestStitch_3 8 rfl rfl)
theorem dX1_bestStitch_79 : decode cX1_bestStitch 79 = .ok (.iinc 5 1, 3) := dk_132 5 1 (dk_at dksX1_bestStitch_3 10 rfl rfl)
theorem dX1_bestStitch_82 : decode cX1_bestStitch 82 = .ok (.goto (-59), 3) := dk_167 255 197 (dk_at dksX1_bestStitch_3 13 rfl rfl)
theorem dX1_bestStitch_85 : decode cX1_bestStitch 85 = .ok (.iload_n 3, 1) := dk_29 (dk_at dksX1_bestStitch_3 16 rfl rfl)
theorem dX1_bestStitch_86 : decode cX1_bestStitch 86 = .ok (.ireturn, 1) := dk_172 (dk_at dksX1_bestStitch_3 17 rfl rfl)
abbrev cX2_far : ByteArray := prog_8_method_5_code
def yX2_far : MethodName := ⟨RX2, "far", "(II)I"⟩
def dkwX2_far_0 : List UInt8 := [27, 28, 100, 184, 0, 34, 62, 29, 42, 180, 0, 21, 29, 100, 184, 0, 40, 172]
abbrev dktX2_far_0 : List UInt8 := dkwX2_far_0 ++ []
theorem dksX2_far_0 : cX2_far.data.toList.drop 0 = dktX2_far_0 := by decide +kernel
theorem dX2_far_0 : decode cX2_far 0 = .ok (.iload_n 1, 1) := dk_27 (dk_at dksX2_far_0 0 rfl rfl)
theorem dX2_far_1 : decode cX2_far 1 = .ok (.iload_n 2, 1) := dk_28 (dk_at dksX2_far_0 1 rfl rfl)
theorem dX2_far_2 : decode cX2_far 2 = .ok (.isub, 1) := dk_100 (dk_at dksX2_far_0 2 rfl rfl)
theorem dX2_far_3 : decode cX2_far 3 = .ok (.invokestatic 34, 3) := dk_184 0 34 (dk_at dksX2_far_0 3 rfl rfl)
theorem dX2_far_6 : decode cX2_far 6 = .ok (.istore_n 3, 1) := dk_62 (dk_at dksX2_far_0 6 rfl rfl)
theorem dX2_far_7 : decode cX2_far 7 = .ok (.iload_n 3, 1) := dk_29 (dk_at dksX2_far_0 7 rfl rfl)
theorem dX2_far_8 : decode cX2_far 8 = .ok (.aload_n 0, 1) := dk_42 (dk_at dksX2_far_0 8 rfl rfl)
theorem dX2_far_9 : decode cX2_far 9 = .ok (.getfield 21, 3) := dk_180 0 21 (dk_at dksX2_far_0 9 rfl rfl)
theorem dX2_far_12 : decode cX2_far 12 = .ok (.iload_n 3, 1) := dk_29 (dk_at dksX2_far_0 12 rfl rfl)
theorem dX2_far_13 : decode cX2_far 13 = .ok (.isub, 1) := dk_100 (dk_at dksX2_far_0 13 rfl rfl)
theorem dX2_far_14 : decode cX2_far 14 = .ok (.invokestatic 40, 3) := dk_184 0 40 (dk_at dksX2_far_0 14 rfl rfl)
theorem dX2_far_17 : decode cX2_far 17 = .ok (.ireturn, 1) := dk_172 (dk_at dksX2_far_0 17 rfl rfl)
abbrev cX1_steps : ByteArray := prog_1_method_41_code
def yX1_steps : MethodName := ⟨RX1, "steps", "(II)I"⟩
def dkwX1_steps_0 : List UInt8 := [42, 180, 0, 31, 42, 180, 0, 40, 180, 0, 108, 27, 46, 28, 182, 1, 5, 172]
abbrev dktX1_steps_0 : List UInt8 := dkwX1_steps_0 ++ []
theorem dksX1_steps_0 : cX1_steps.data.toList.drop 0 = dktX1_steps_0 := by decide +kernel
theorem dX1_steps_0 : decode cX1_steps 0 = .ok (.aload_n 0, 1) := dk_42 (dk_at dksX1_steps_0 0 rfl rfl)
theorem dX1_steps_1 : decode cX1_steps 1 = .ok (.getfield 31, 3) := dk_180 0 31 (dk_at dksX1_steps_0 1 rfl rfl)
theorem dX1_steps_4 : decode cX1_steps 4 = .ok (.aload_n 0, 1) := dk_42 (dk_at dksX1_steps_0 4 rfl rfl)
theorem dX1_steps_5 : decode cX1_steps 5 = .ok (.getfield 40, 3) := dk_180 0 40 (dk_at dksX1_steps_0 5 rfl rfl)
theorem dX1_steps_8 : decode cX1_steps 8 = .ok (.getfield 108, 3) := dk_180 0 108 (dk_at dksX1_steps_0 8 rfl rfl)
theorem dX1_steps_11 : decode cX1_steps 11 = .ok (.iload_n 1, 1) := dk_27 (dk_at dksX1_steps_0 11 rfl rfl)
theorem dX1_steps_12 : decode cX1_steps 12 = .ok (.iaload, 1) := dk_46 (dk_at dksX1_steps_0 12 rfl rfl)
theorem dX1_steps_13 : decode cX1_steps 13 = .ok (.iload_n 2, 1) := dk_28 (dk_at dksX1_steps_0 13 rfl rfl)
theorem dX1_steps_14 : decode cX1_steps 14 = .ok (.invokevirtual 261, 3) := dk_182 1 5 (dk_at dksX1_steps_0 14 rfl rfl)
theorem dX1_steps_17 : decode cX1_steps 17 = .ok (.ireturn, 1) := dk_172 (dk_at dksX1_steps_0 17 rfl rfl)
abbrev cX1_closedFrom : ByteArray := prog_1_method_46_code
def yX1_closedFrom : MethodName := ⟨RX1, "closedFrom", "(I)I"⟩
def dkwX1_closedFrom_1 : List UInt8 := [180, 0, 115, 112, 182, 0, 213, 154, 0, 9, 132, 2, 1, 167, 255, 221, 28, 172]
abbrev dktX1_closedFrom_1 : List UInt8 := dkwX1_closedFrom_1 ++ []
def dkwX1_closedFrom_0 : List UInt8 := [3, 61, 28, 42, 180, 0, 31, 180, 0, 115, 162, 0, 30, 42, 180, 0, 40, 27, 28, 96, 42, 180, 0, 31]
abbrev dktX1_closedFrom_0 : List UInt8 := dkwX1_closedFrom_0 ++ dktX1_closedFrom_1
theorem dksX1_closedFrom_0 : cX1_closedFrom.data.toList.drop 0 = dktX1_closedFrom_0 := by decide +kernel
theorem dksX1_closedFrom_1 : cX1_closedFrom.data.toList.drop 24 = dktX1_closedFrom_1 := dk_seg dksX1_closedFrom_0 24 rfl rfl
theorem dX1_closedFrom_0 : decode cX1_closedFrom 0 = .ok (.iconst 0, 1) := dk_3 (dk_at dksX1_closedFrom_0 0 rfl rfl)
theorem dX1_closedFrom_1 : decode cX1_closedFrom 1 = .ok (.istore_n 2, 1) := dk_61 (dk_at dksX1_closedFrom_0 1 rfl rfl)
theorem dX1_closedFrom_2 : decode cX1_closedFrom 2 = .ok (.iload_n 2, 1) := dk_28 (dk_at dksX1_closedFrom_0 2 rfl rfl)
theorem dX1_closedFrom_3 : decode cX1_closedFrom 3 = .ok (.aload_n 0, 1) := dk_42 (dk_at dksX1_closedFrom_0 3 rfl rfl)
theorem dX1_closedFrom_4 : decode cX1_closedFrom 4 = .ok (.getfield 31, 3) := dk_180 0 31 (dk_at dksX1_closedFrom_0 4 rfl rfl)
theorem dX1_closedFrom_7 : decode cX1_closedFrom 7 = .ok (.getfield 115, 3) := dk_180 0 115 (dk_at dksX1_closedFrom_0 7 rfl rfl)
theorem dX1_closedFrom_10 : decode cX1_closedFrom 10 = .ok (.if_icmp .ge 30, 3) := dk_162 0 30 (dk_at dksX1_closedFrom_0 10 rfl rfl)
theorem dX1_closedFrom_13 : decode cX1_closedFrom 13 = .ok (.aload_n 0, 1) := dk_42 (dk_at dksX1_closedFrom_0 13 rfl rfl)
theorem dX1_closedFrom_14 : decode cX1_closedFrom 14 = .ok (.getfield 40, 3) := dk_180 0 40 (dk_at dksX1_closedFrom_0 14 rfl rfl)
theorem dX1_closedFrom_17 : decode cX1_closedFrom 17 = .ok (.iload_n 1, 1) := dk_27 (dk_at dksX1_closedFrom_0 17 rfl rfl)
theorem dX1_closedFrom_18 : decode cX1_closedFrom 18 = .ok (.iload_n 2, 1) := dk_28 (dk_at dksX1_closedFrom_0 18 rfl rfl)
theorem dX1_closedFrom_19 : decode cX1_closedFrom 19 = .ok (.iadd, 1) := dk_96 (dk_at dksX1_closedFrom_0 19 rfl rfl)
theorem dX1_closedFrom_20 : decode cX1_closedFrom 20 = .ok (.aload_n 0, 1) := dk_42 (dk_at dksX1_closedFrom_0 20 rfl rfl)
theorem dX1_closedFrom_21 : decode cX1_closedFrom 21 = .ok (.getfield 31, 3) := dk_180 0 31 (dk_at dksX1_closedFrom_0 21 rfl rfl)
theorem dX1_closedFrom_24 : decode cX1_closedFrom 24 = .ok (.getfield 115, 3) := dk_180 0 115 (dk_at dksX1_closedFrom_1 0 rfl rfl)
theorem dX1_closedFrom_27 : decode cX1_closedFrom 27 = .ok (.irem, 1) := dk_112 (dk_at dksX1_closedFrom_1 3 rfl rfl)
theorem dX1_closedFrom_28 : decode cX1_closedFrom 28 = .ok (.invokevirtual 213, 3) := dk_182 0 213 (dk_at dksX1_closedFrom_1 4 rfl rfl)
theorem dX1_closedFrom_31 : decode cX1_closedFrom 31 = .ok (.ifCond .ne 9, 3) := dk_154 0 9 (dk_at dksX1_closedFrom_1 7 rfl rfl)
theorem dX1_closedFrom_34 : decode cX1_closedFrom 34 = .ok (.iinc 2 1, 3) := dk_132 2 1 (dk_at dksX1_closedFrom_1 10 rfl rfl)
theorem dX1_closedFrom_37 : decode cX1_closedFrom 37 = .ok (.goto (-35), 3) := dk_167 255 221 (dk_at dksX1_closedFrom_1 13 rfl rfl)
theorem dX1_closedFrom_40 : decode cX1_closedFrom 40 = .ok (.iload_n 2, 1) := dk_28 (dk_at dksX1_closedFrom_1 16 rfl rfl)
theorem dX1_closedFrom_41 : decode cX1_closedFrom 41 = .ok (.ireturn, 1) := dk_172 (dk_at dksX1_closedFrom_1 17 rfl rfl)
abbrev cX1_closed : ByteArray := prog_1_method_47_code
def yX1_closed : MethodName := ⟨RX1, "closed", "(I)I"⟩
def dkwX1_closed_2 : List UInt8 := [28, 182, 1, 21, 167, 0, 16, 42, 28, 182, 1, 21, 154, 0, 7, 2, 167, 0, 4, 28, 172]
abbrev dktX1_closed_2 : List UInt8 := dkwX1_closed_2 ++ []
def dkwX1_closed_1 : List UInt8 := [182, 1, 21, 42, 28, 182, 1, 21, 164, 0, 5, 29, 61, 132, 3, 1, 167, 255, 227, 27, 154, 0, 11, 42]
abbrev dktX1_closed_1 : List UInt8 := dkwX1_closed_1 ++ dktX1_closed_2
def dkwX1_closed_0 : List UInt8 := [27, 4, 184, 0, 173, 3, 61, 4, 62, 29, 42, 180, 0, 31, 180, 0, 115, 162, 0, 24, 42, 29]
abbrev dktX1_closed_0 : List UInt8 := dkwX1_closed_0 ++ dktX1_closed_1
theorem dksX1_closed_0 : cX1_closed.data.toList.drop 0 = dktX1_closed_0 := by decide +kernel
theorem dksX1_closed_1 : cX1_closed.data.toList.drop 22 = dktX1_closed_1 := dk_seg dksX1_closed_0 22 rfl rfl
theorem dksX1_closed_2 : cX1_closed.data.toList.drop 46 = dktX1_closed_2 := dk_seg dksX1_closed_1 24 rfl rfl
theorem dX1_closed_0 : decode cX1_closed 0 = .ok (.iload_n 1, 1) := dk_27 (dk_at dksX1_closed_0 0 rfl rfl)
theorem dX1_closed_1 : decode cX1_closed 1 = .ok (.iconst 1, 1) := dk_4 (dk_at dksX1_closed_0 1 rfl rfl)
theorem dX1_closed_2 : decode cX1_closed 2 = .ok (.invokestatic 173, 3) := dk_184 0 173 (dk_at dksX1_closed_0 2 rfl rfl)
theorem dX1_closed_5 : decode cX1_closed 5 = .ok (.iconst 0, 1) := dk_3 (dk_at dksX1_closed_0 5 rfl rfl)
theorem dX1_closed_6 : decode cX1_closed 6 = .ok (.istore_n 2, 1) := dk_61 (dk_at dksX1_closed_0 6 rfl rfl)
theorem dX1_closed_7 : decode cX1_closed 7 = .ok (.iconst 1, 1) := dk_4 (dk_at dksX1_closed_0 7 rfl rfl)
theorem dX1_closed_8 : decode cX1_closed 8 = .ok (.istore_n 3, 1) := dk_62 (dk_at dksX1_closed_0 8 rfl rfl)
theorem dX1_closed_9 : decode cX1_closed 9 = .ok (.iload_n 3, 1) := dk_29 (dk_at dksX1_closed_0 9 rfl rfl)
theorem dX1_closed_10 : decode cX1_closed 10 = .ok (.aload_n 0, 1) := dk_42 (dk_at dksX1_closed_0 10 rfl rfl)
theorem dX1_closed_11 : decode cX1_closed 11 = .ok (.getfield 31, 3) := dk_180 0 31 (dk_at dksX1_closed_0 11 rfl rfl)
theorem dX1_closed_14 : decode cX1_closed 14 = .ok (.getfield 115, 3) := dk_180 0 115 (dk_at dksX1_closed_0 14 rfl rfl)
theorem dX1_closed_17 : decode cX1_closed 17 = .ok (.if_icmp .ge 24, 3) := dk_162 0 24 (dk_at dksX1_closed_0 17 rfl rfl)
theorem dX1_closed_20 : decode cX1_closed 20 = .ok (.aload_n 0, 1) := dk_42 (dk_at dksX1_closed_0 20 rfl rfl)
theorem dX1_closed_21 : decode cX1_closed 21 = .ok (.iload_n 3, 1) := dk_29 (dk_at dksX1_closed_0 21 rfl rfl)
theorem dX1_closed_22 : decode cX1_closed 22 = .ok (.invokevirtual 277, 3) := dk_182 1 21 (dk_at dksX1_closed_1 0 rfl rfl)
theorem dX1_closed_25 : decode cX1_closed 25 = .ok (.aload_n 0, 1) := dk_42 (dk_at dksX1_closed_1 3 rfl rfl)
theorem dX1_closed_26 : decode cX1_closed 26 = .ok (.iload_n 2, 1) := dk_28 (dk_at dksX1_closed_1 4 rfl rfl)
theorem dX1_closed_27 : decode cX1_closed 27 = .ok (.invokevirtual 277, 3) := dk_182 1 21 (dk_at dksX1_closed_1 5 rfl rfl)
theorem dX1_closed_30 : decode cX1_closed 30 = .ok (.if_icmp .le 5, 3) := dk_164 0 5 (dk_at dksX1_closed_1 8 rfl rfl)
theorem dX1_closed_33 : decode cX1_closed 33 = .ok (.iload_n 3, 1) := dk_29 (dk_at dksX1_closed_1 11 rfl rfl)
theorem dX1_closed_34 : decode cX1_closed 34 = .ok (.istore_n 2, 1) := dk_61 (dk_at dksX1_closed_1 12 rfl rfl)
theorem dX1_closed_35 : decode cX1_closed 35 = .ok (.iinc 3 1, 3) := dk_132 3 1 (dk_at dksX1_closed_1 13 rfl rfl)
theorem dX1_closed_38 : decode cX1_closed 38 = .ok (.goto (-29), 3) := dk_167 255 227 (dk_at dksX1_closed_1 16 rfl rfl)
theorem dX1_closed_41 : decode cX1_closed 41 = .ok (.iload_n 1, 1) := dk_27 (dk_at dksX1_closed_1 19 rfl rfl)
theorem dX1_closed_42 : decode cX1_closed 42 = .ok (.ifCond .ne 11, 3) := dk_154 0 11 (dk_at dksX1_closed_1 20 rfl rfl)
theorem dX1_closed_45 : decode cX1_closed 45 = .ok (.aload_n 0, 1) := dk_42 (dk_at dksX1_closed_1 23 rfl rfl)
theorem dX1_closed_46 : decode cX1_closed 46 = .ok (.iload_n 2, 1) := dk_28 (dk_at dksX1_closed_2 0 rfl rfl)
theorem dX1_closed_47 : decode cX1_closed 47 = .ok (.invokevirtual 277, 3) := dk_182 1 21 (dk_at dksX1_closed_2 1 rfl rfl)
theorem dX1_closed_50 : decode cX1_closed 50 = .ok (.goto 16, 3) := dk_167 0 16 (dk_at dksX1_closed_2 4 rfl rfl)
theorem dX1_closed_53 : decode cX1_closed 53 = .ok (.aload_n 0, 1) := dk_42 (dk_at dksX1_closed_2 7 rfl rfl)
theorem dX1_closed_54 : decode cX1_closed 54 = .ok (.iload_n 2, 1) := dk_28 (dk_at dksX1_closed_2 8 rfl rfl)
theorem dX1_closed_55 : decode cX1_closed 55 = .ok (.invokevirtual 277, 3) := dk_182 1 21 (dk_at dksX1_closed_2 9 rfl rfl)
theorem dX1_closed_58 : decode cX1_closed 58 = .ok (.ifCond .ne 7, 3) := dk_154 0 7 (dk_at dksX1_closed_2 12 rfl rfl)
theorem dX1_closed_61 : decode cX1_closed 61 = .ok (.iconst (-1), 1) := dk_2 (dk_at dksX1_closed_2 15 rfl rfl)
theorem dX1_closed_62 : decode cX1_closed 62 = .ok (.goto 4, 3) := dk_167 0 4 (dk_at dksX1_closed_2 16 rfl rfl)
theorem dX1_closed_65 : decode cX1_closed 65 = .ok (.iload_n 2, 1) := dk_28 (dk_at dksX1_closed_2 19 rfl rfl)
theorem dX1_closed_66 : decode cX1_closed 66 = .ok (.ireturn, 1) := dk_172 (dk_at dksX1_closed_2 20 rfl rfl)
abbrev cX1_strainFrom : ByteArray := prog_1_method_49_code
def yX1_strainFrom : MethodName := ⟨RX1, "strainFrom", "(II)I"⟩
def dkwX1_strainFrom_1 : List UInt8 := [180, 0, 31, 180, 0, 115, 112, 46, 96, 62, 132, 4, 1, 167, 255, 224, 29, 172]
abbrev dktX1_strainFrom_1 : List UInt8 := dkwX1_strainFrom_1 ++ []
def dkwX1_strainFrom_0 : List UInt8 := [3, 62, 3, 54, 4, 21, 4, 28, 162, 0, 32, 29, 42, 180, 0, 40, 180, 0, 155, 27, 21, 4, 96, 42]
abbrev dktX1_strainFrom_0 : List UInt8 := dkwX1_strainFrom_0 ++ dktX1_strainFrom_1
theorem dksX1_strainFrom_0 : cX1_strainFrom.data.toList.drop 0 = dktX1_strainFrom_0 := by decide +kernel
theorem dksX1_strainFrom_1 : cX1_strainFrom.data.toList.drop 24 = dktX1_strainFrom_1 := dk_seg dksX1_strainFrom_0 24 rfl rfl
theorem dX1_strainFrom_0 : decode cX1_strainFrom 0 = .ok (.iconst 0, 1) := dk_3 (dk_at dksX1_strainFrom_0 0 rfl rfl)
theorem dX1_strainFrom_1 : decode cX1_strainFrom 1 = .ok (.istore_n 3, 1) := dk_62 (dk_at dksX1_strainFrom_0 1 rfl rfl)
theorem dX1_strainFrom_2 : decode cX1_strainFrom 2 = .ok (.iconst 0, 1) := dk_3 (dk_at dksX1_strainFrom_0 2 rfl rfl)
theorem dX1_strainFrom_3 : decode cX1_strainFrom 3 = .ok (.istore 4, 2) := dk_54 4 (dk_at dksX1_strainFrom_0 3 rfl rfl)
theorem dX1_strainFrom_5 : decode cX1_strainFrom 5 = .ok (.iload 4, 2) := dk_21 4 (dk_at dksX1_strainFrom_0 5 rfl rfl)
theorem dX1_strainFrom_7 : decode cX1_strainFrom 7 = .ok (.iload_n 2, 1) := dk_28 (dk_at dksX1_strainFrom_0 7 rfl rfl)
theorem dX1_strainFrom_8 : decode cX1_strainFrom 8 = .ok (.if_icmp .ge 32, 3) := dk_162 0 32 (dk_at dksX1_strainFrom_0 8 rfl rfl)
theorem dX1_strainFrom_11 : decode cX1_strainFrom 11 = .ok (.iload_n 3, 1) := dk_29 (dk_at dksX1_strainFrom_0 11 rfl rfl)
theorem dX1_strainFrom_12 : decode cX1_strainFrom 12 = .ok (.aload_n 0, 1) := dk_42 (dk_at dksX1_strainFrom_0 12 rfl rfl)
theorem dX1_strainFrom_13 : decode cX1_strainFrom 13 = .ok (.getfield 40, 3) := dk_180 0 40 (dk_at dksX1_strainFrom_0 13 rfl rfl)
theorem dX1_strainFrom_16 : decode cX1_strainFrom 16 = .ok (.getfield 155, 3) := dk_180 0 155 (dk_at dksX1_strainFrom_0 16 rfl rfl)
theorem dX1_strainFrom_19 : decode cX1_strainFrom 19 = .ok (.iload_n 1, 1) := dk_27 (dk_at dksX1_strainFrom_0 19 rfl rfl)
theorem dX1_strainFrom_20 : decode cX1_strainFrom 20 = .ok (.iload 4, 2) := dk_21 4 (dk_at dksX1_strainFrom_0 20 rfl rfl)
theorem dX1_strainFrom_22 : decode cX1_strainFrom 22 = .ok (.iadd, 1) := dk_96 (dk_at dksX1_strainFrom_0 22 rfl rfl)
theorem dX1_strainFrom_23 : decode cX1_strainFrom 23 = .ok (.aload_n 0, 1) := dk_42 (dk_at dksX1_strainFrom_0 23 rfl rfl)
theorem dX1_strainFrom_24 : decode cX1_strainFrom 24 = .ok (.getfield 31, 3) := dk_180 0 31 (dk_at dksX1_strainFrom_1 0 rfl rfl)
theorem dX1_strainFrom_27 : decode cX1_strainFrom 27 = .ok (.getfield 115, 3) := dk_180 0 115 (dk_at dksX1_strainFrom_1 3 rfl rfl)
theorem dX1_strainFrom_30 : decode cX1_strainFrom 30 = .ok (.irem, 1) := dk_112 (dk_at dksX1_strainFrom_1 6 rfl rfl)
theorem dX1_strainFrom_31 : decode cX1_strainFrom 31 = .ok (.iaload, 1) := dk_46 (dk_at dksX1_strainFrom_1 7 rfl rfl)
theorem dX1_strainFrom_32 : decode cX1_strainFrom 32 = .ok (.iadd, 1) := dk_96 (dk_at dksX1_strainFrom_1 8 rfl rfl)
theorem dX1_strainFrom_33 : decode cX1_strainFrom 33 = .ok (.istore_n 3, 1) := dk_62 (dk_at dksX1_strainFrom_1 9 rfl rfl)
theorem dX1_strainFrom_34 : decode cX1_strainFrom 34 = .ok (.iinc 4 1, 3) := dk_132 4 1 (dk_at dksX1_strainFrom_1 10 rfl rfl)
theorem dX1_strainFrom_37 : decode cX1_strainFrom 37 = .ok (.goto (-32), 3) := dk_167 255 224 (dk_at dksX1_strainFrom_1 13 rfl rfl)
theorem dX1_strainFrom_40 : decode cX1_strainFrom 40 = .ok (.iload_n 3, 1) := dk_29 (dk_at dksX1_strainFrom_1 16 rfl rfl)
theorem dX1_strainFrom_41 : decode cX1_strainFrom 41 = .ok (.ireturn, 1) := dk_172 (dk_at dksX1_strainFrom_1 17 rfl rfl)
abbrev cX1_tight : ByteArray := prog_1_method_50_code
def yX1_tight : MethodName := ⟨RX1, "tight", "(II)I"⟩
def dkwX1_tight_3 : List UInt8 := [28, 154, 0, 12, 42, 29, 27, 182, 1, 27, 167, 0, 4, 29, 172]
abbrev dktX1_tight_3 : List UInt8 := dkwX1_tight_3 ++ []
def dkwX1_tight_2 : List UInt8 := [21, 4, 27, 182, 1, 27, 42, 29, 27, 182, 1, 27, 164, 0, 6, 21, 4, 62, 132, 4, 1, 167, 255, 222]
abbrev dktX1_tight_2 : List UInt8 := dkwX1_tight_2 ++ dktX1_tight_3
def dkwX1_tight_1 : List UInt8 := [164, 0, 5, 2, 172, 3, 62, 4, 54, 4, 21, 4, 42, 180, 0, 31, 180, 0, 115, 162, 0, 28, 42]
abbrev dktX1_tight_1 : List UInt8 := dkwX1_tight_1 ++ dktX1_tight_2
def dkwX1_tight_0 : List UInt8 := [28, 4, 184, 0, 173, 27, 4, 16, 12, 184, 0, 144, 184, 0, 74, 27, 42, 180, 0, 31, 180, 0, 115]
abbrev dktX1_tight_0 : List UInt8 := dkwX1_tight_0 ++ dktX1_tight_1
theorem dksX1_tight_0 : cX1_tight.data.toList.drop 0 = dktX1_tight_0 := by decide +kernel
theorem dksX1_tight_1 : cX1_tight.data.toList.drop 23 = dktX1_tight_1 := dk_seg dksX1_tight_0 23 rfl rfl
theorem dksX1_tight_2 : cX1_tight.data.toList.drop 46 = dktX1_tight_2 := dk_seg dksX1_tight_1 23 rfl rfl
theorem dksX1_tight_3 : cX1_tight.data.toList.drop 70 = dktX1_tight_3 := dk_seg dksX1_tight_2 24 rfl rfl
theorem dX1_tight_0 : decode cX1_tight 0 = .ok (.iload_n 2, 1) := dk_28 (dk_at dksX1_tight_0 0 rfl rfl)
theorem dX1_tight_1 : decode cX1_tight 1 = .ok (.iconst 1, 1) := dk_4 (dk_at dksX1_tight_0 1 rfl rfl)
theorem dX1_tight_2 : decode cX1_tight 2 = .ok (.invokestatic 173, 3) := dk_184 0 173 (dk_at dksX1_tight_0 2 rfl rfl)
theorem dX1_tight_5 : decode cX1_tight 5 = .ok (.iload_n 1, 1) := dk_27 (dk_at dksX1_tight_0 5 rfl rfl)
theorem dX1_tight_6 : decode cX1_tight 6 = .ok (.iconst 1, 1) := dk_4 (dk_at dksX1_tight_0 6 rfl rfl)
theorem dX1_tight_7 : decode cX1_tight 7 = .ok (.bipush 12, 2) := dk_16 12 (dk_at dksX1_tight_0 7 rfl rfl)
theorem dX1_tight_9 : decode cX1_tight 9 = .ok (.invokestatic 144, 3) := dk_184 0 144 (dk_at dksX1_tight_0 9 rfl rfl)
theorem dX1_tight_12 : decode cX1_tight 12 = .ok (.invokestatic 74, 3) := dk_184 0 74 (dk_at dksX1_tight_0 12 rfl rfl)
theorem dX1_tight_15 : decode cX1_tight 15 = .ok (.iload_n 1, 1) := dk_27 (dk_at dksX1_tight_0 15 rfl rfl)
theorem dX1_tight_16 : decode cX1_tight 16 = .ok (.aload_n 0, 1) := dk_42 (dk_at dksX1_tight_0 16 rfl rfl)
theorem dX1_tight_17 : decode cX1_tight 17 = .ok (.getfield 31, 3) := dk_180 0 31 (dk_at dksX1_tight_0 17 rfl rfl)
theorem dX1_tight_20 : decode cX1_tight 20 = .ok (.getfield 115, 3) := dk_180 0 115 (dk_at dksX1_tight_0 20 rfl rfl)
theorem dX1_tight_23 : decode cX1_tight 23 = .ok (.if_icmp .le 5, 3) := dk_164 0 5 (dk_at dksX1_tight_1 0 rfl rfl)
theorem dX1_tight_26 : decode cX1_tight 26 = .ok (.iconst (-1), 1) := dk_2 (dk_at dksX1_tight_1 3 rfl rfl)
theorem dX1_tight_27 : decode cX1_tight 27 = .ok (.ireturn, 1) := dk_172 (dk_at dksX1_tight_1 4 rfl rfl)
theorem dX1_tight_28 : decode cX1_tight 28 = .ok (.iconst 0, 1) := dk_3 (dk_at dksX1_tight_1 5 rfl rfl)
theorem dX1_tight_29 : decode cX1_tight 29 = .ok (.istore_n 3, 1) := dk_62 (dk_at dksX1_tight_1 6 rfl rfl)
theorem dX1_tight_30 : decode cX1_tight 30 = .ok (.iconst 1, 1) := dk_4 (dk_at dksX1_tight_1 7 rfl rfl)
theorem dX1_tight_31 : decode cX1_tight 31 = .ok (.istore 4, 2) := dk_54 4 (dk_at dksX1_tight_1 8 rfl rfl)
theorem dX1_tight_33 : decode cX1_tight 33 = .ok (.iload 4, 2) := dk_21 4 (dk_at dksX1_tight_1 10 rfl rfl)
theorem dX1_tight_35 : decode cX1_tight 35 = .ok (.aload_n 0, 1) := dk_42 (dk_at dksX1_tight_1 12 rfl rfl)
theorem dX1_tight_36 : decode cX1_tight 36 = .ok (.getfield 31, 3) := dk_180 0 31 (dk_at dksX1_tight_1 13 rfl rfl)
theorem dX1_tight_39 : decode cX1_tight 39 = .ok (.getfield 115, 3) := dk_180 0 115 (dk_at dksX1_tight_1 16 rfl rfl)
theorem dX1_tight_42 : decode cX1_tight 42 = .ok (.if_icmp .ge 28, 3) := dk_162 0 28 (dk_at dksX1_tight_1 19 rfl rfl)
theorem dX1_tight_45 : decode cX1_tight 45 = .ok (.aload_n 0, 1) := dk_42 (dk_at dksX1_tight_1 22 rfl rfl)
theorem dX1_tight_46 : decode cX1_tight 46 = .ok (.iload 4, 2) := dk_21 4 (dk_at dksX1_tight_2 0 rfl rfl)
theorem dX1_tight_48 : decode cX1_tight 48 = .ok (.iload_n 1, 1) := dk_27 (dk_at dksX1_tight_2 2 rfl rfl)
theorem dX1_tight_49 : decode cX1_tight 49 = .ok (.invokevirtual 283, 3) := dk_182 1 27 (dk_at dksX1_tight_2 3 rfl rfl)
theorem dX1_tight_52 : decode cX1_tight 52 = .ok (.aload_n 0, 1) := dk_42 (dk_at dksX1_tight_2 6 rfl rfl)
theorem dX1_tight_53 : decode cX1_tight 53 = .ok (.iload_n 3, 1) := dk_29 (dk_at dksX1_tight_2 7 rfl rfl)
theorem dX1_tight_54 : decode cX1_tight 54 = .ok (.iload_n 1, 1) := dk_27 (dk_at dksX1_tight_2 8 rfl rfl)
theorem dX1_tight_55 : decode cX1_tight 55 = .ok (.invokevirtual 283, 3) := dk_182 1 27 (dk_at dksX1_tight_2 9 rfl rfl)
theorem dX1_tight_58 : decode cX1_tight 58 = .ok (.if_icmp .le 6, 3) := dk_164 0 6 (dk_at dksX1_tight_2 12 rfl rfl)
theorem dX1_tight_61 : decode cX1_tight 61 = .ok (.iload 4, 2) := dk_21 4 (dk_at dksX1_tight_2 15 rfl rfl)
theorem dX1_tight_63 : decode cX1_tight 63 = .ok (.istore_n 3, 1) := dk_62 (dk_at dksX1_tight_2 17 rfl rfl)
theorem dX1_tight_64 : decode cX1_tight 64 = .ok (.iinc 4 1, 3) := dk_132 4 1 (dk_at dksX1_tight_2 18 rfl rfl)
theorem dX1_tight_67 : decode cX1_tight 67 = .ok (.goto (-34), 3) := dk_167 255 222 (dk_at dksX1_tight_2 21 rfl rfl)
theorem dX1_tight_70 : decode cX1_tight 70 = .ok (.iload_n 2, 1) := dk_28 (dk_at dksX1_tight_3 0 rfl rfl)
theorem dX1_tight_71 : decode cX1_tight 71 = .ok (.ifCond .ne 12, 3) := dk_154 0 12 (dk_at dksX1_tight_3 1 rfl rfl)
theorem dX1_tight_74 : decode cX1_tight 74 = .ok (.aload_n 0, 1) := dk_42 (dk_at dksX1_tight_3 4 rfl rfl)
theorem dX1_tight_75 : decode cX1_tight 75 = .ok (.iload_n 3, 1) := dk_29 (dk_at dksX1_tight_3 5 rfl rfl)
theorem dX1_tight_76 : decode cX1_tight 76 = .ok (.iload_n 1, 1) := dk_27 (dk_at dksX1_tight_3 6 rfl rfl)
theorem dX1_tight_77 : decode cX1_tight 77 = .ok (.invokevirtual 283, 3) := dk_182 1 27 (dk_at dksX1_tight_3 7 rfl rfl)
theorem dX1_tight_80 : decode cX1_tight 80 = .ok (.goto 4, 3) := dk_167 0 4 (dk_at dksX1_tight_3 10 rfl rfl)
theorem dX1_tight_83 : decode cX1_tight 83 = .ok (.iload_n 3, 1) := dk_29 (dk_at dksX1_tight_3 13 rfl rfl)
theorem dX1_tight_84 : decode cX1_tight 84 = .ok (.ireturn, 1) := dk_172 (dk_at dksX1_tight_3 14 rfl rfl)
abbrev cX1_isSo : ByteArray := prog_1_method_54_code
def yX1_isSo : MethodName := ⟨RX1, "isSo", "()Z"⟩
def dkwX1_isSo_5 : List UInt8 := [180, 0, 44, 182, 0, 237, 87, 132, 2, 1, 167, 255, 175, 4, 172]
abbrev dktX1_isSo_5 : List UInt8 := dkwX1_isSo_5 ++ []
def dkwX1_isSo_4 : List UInt8 := [180, 0, 158, 25, 4, 3, 46, 46, 25, 4, 5, 46, 159, 0, 5, 3, 172, 132, 3, 1, 167, 255, 196, 42]
abbrev dktX1_isSo_4 : List UInt8 := dkwX1_isSo_4 ++ dktX1_isSo_5
def dkwX1_isSo_3 : List UInt8 := [185, 0, 180, 2, 0, 192, 1, 44, 58, 4, 25, 4, 4, 46, 28, 160, 0, 24, 42, 180, 0, 44]
abbrev dktX1_isSo_3 : List UInt8 := dkwX1_isSo_3 ++ dktX1_isSo_4
def dkwX1_isSo_2 : List UInt8 := [163, 0, 82, 3, 62, 29, 42, 180, 0, 68, 185, 0, 121, 1, 0, 162, 0, 53, 42, 180, 0, 68, 29]
abbrev dktX1_isSo_2 : List UInt8 := dkwX1_isSo_2 ++ dktX1_isSo_3
def dkwX1_isSo_1 : List UInt8 := [185, 0, 180, 2, 0, 192, 1, 44, 4, 46, 184, 0, 16, 60, 132, 2, 1, 167, 255, 220, 3, 61, 28, 27]
abbrev dktX1_isSo_1 : List UInt8 := dkwX1_isSo_1 ++ dktX1_isSo_2
def dkwX1_isSo_0 : List UInt8 := [3, 60, 3, 61, 28, 42, 180, 0, 68, 185, 0, 121, 1, 0, 162, 0, 29, 27, 42, 180, 0, 68, 28]
abbrev dktX1_isSo_0 : List UInt8 := dkwX1_isSo_0 ++ dktX1_isSo_1
theorem dksX1_isSo_0 : cX1_isSo.data.toList.drop 0 = dktX1_isSo_0 := by decide +kernel
theorem dksX1_isSo_1 : cX1_isSo.data.toList.drop 23 = dktX1_isSo_1 := dk_seg dksX1_isSo_0 23 rfl rfl
theorem dksX1_isSo_2 : cX1_isSo.data.toList.drop 47 = dktX1_isSo_2 := dk_seg dksX1_isSo_1 24 rfl rfl
theorem dksX1_isSo_3 : cX1_isSo.data.toList.drop 70 = dktX1_isSo_3 := dk_seg dksX1_isSo_2 23 rfl rfl
theorem dksX1_isSo_4 : cX1_isSo.data.toList.drop 92 = dktX1_isSo_4 := dk_seg dksX1_isSo_3 22 rfl rfl
theorem dksX1_isSo_5 : cX1_isSo.data.toList.drop 116 = dktX1_isSo_5 := dk_seg dksX1_isSo_4 24 rfl rfl
theorem dX1_isSo_0 : decode cX1_isSo 0 = .ok (.iconst 0, 1) := dk_3 (dk_at dksX1_isSo_0 0 rfl rfl)
theorem dX1_isSo_1 : decode cX1_isSo 1 = .ok (.istore_n 1, 1) := dk_60 (dk_at dksX1_isSo_0 1 rfl rfl)
theorem dX1_isSo_2 : decode cX1_isSo 2 = .ok (.iconst 0, 1) := dk_3 (dk_at dksX1_isSo_0 2 rfl rfl)
theorem dX1_isSo_3 : decode cX1_isSo 3 = .ok (.istore_n 2, 1) := dk_61 (dk_at dksX1_isSo_0 3 rfl rfl)
theorem dX1_isSo_4 : decode cX1_isSo 4 = .ok (.iload_n 2, 1) := dk_28 (dk_at dksX1_isSo_0 4 rfl rfl)
theorem dX1_isSo_5 : decode cX1_isSo 5 = .ok (.aload_n 0, 1) := dk_42 (dk_at dksX1_isSo_0 5 rfl rfl)
theorem dX1_isSo_6 : decode cX1_isSo 6 = .ok (.getfield 68, 3) := dk_180 0 68 (dk_at dksX1_isSo_0 6 rfl rfl)
theorem dX1_isSo_9 : decode cX1_isSo 9 = .ok (.invokeinterface 121 1, 5) := by decide +kernel
theorem dX1_isSo_14 : decode cX1_isSo 14 = .ok (.if_icmp .ge 29, 3) := dk_162 0 29 (dk_at dksX1_isSo_0 14 rfl rfl)
theorem dX1_isSo_17 : decode cX1_isSo 17 = .ok (.iload_n 1, 1) := dk_27 (dk_at dksX1_isSo_0 17 rfl rfl)
theorem dX1_isSo_18 : decode cX1_isSo 18 = .ok (.aload_n 0, 1) := dk_42 (dk_at dksX1_isSo_0 18 rfl rfl)
theorem dX1_isSo_19 : decode cX1_isSo 19 = .ok (.getfield 68, 3) := dk_180 0 68 (dk_at dksX1_isSo_0 19 rfl rfl)
theorem dX1_isSo_22 : decode cX1_isSo 22 = .ok (.iload_n 2, 1) := dk_28 (dk_at dksX1_isSo_0 22 rfl rfl)
theorem dX1_isSo_23 : decode cX1_isSo 23 = .ok (.invokeinterface 180 2, 5) := by decide +kernel
theorem dX1_isSo_28 : decode cX1_isSo 28 = .ok (.checkcast 300, 3) := dk_192 1 44 (dk_at dksX1_isSo_1 5 rfl rfl)
theorem dX1_isSo_31 : decode cX1_isSo 31 = .ok (.iconst 1, 1) := dk_4 (dk_at dksX1_isSo_1 8 rfl rfl)
theorem dX1_isSo_32 : decode cX1_isSo 32 = .ok (.iaload, 1) := dk_46 (dk_at dksX1_isSo_1 9 rfl rfl)
theorem dX1_isSo_33 : decode cX1_isSo 33 = .ok (.invokestatic 16, 3) := dk_184 0 16 (dk_at dksX1_isSo_1 10 rfl rfl)
theorem dX1_isSo_36 : decode cX1_isSo 36 = .ok (.istore_n 1, 1) := dk_60 (dk_at dksX1_isSo_1 13 rfl rfl)
theorem dX1_isSo_37 : decode cX1_isSo 37 = .ok (.iinc 2 1, 3) := dk_132 2 1 (dk_at dksX1_isSo_1 14 rfl rfl)
theorem dX1_isSo_40 : decode cX1_isSo 40 = .ok (.goto (-36), 3) := dk_167 255 220 (dk_at dksX1_isSo_1 17 rfl rfl)
theorem dX1_isSo_43 : decode cX1_isSo 43 = .ok (.iconst 0, 1) := dk_3 (dk_at dksX1_isSo_1 20 rfl rfl)
theorem dX1_isSo_44 : decode cX1_isSo 44 = .ok (.istore_n 2, 1) := dk_61 (dk_at dksX1_isSo_1 21 rfl rfl)
theorem dX1_isSo_45 : decode cX1_isSo 45 = .ok (.iload_n 2, 1) := dk_28 (dk_at dksX1_isSo_1 22 rfl rfl)
theorem dX1_isSo_46 : decode cX1_isSo 46 = .ok (.iload_n 1, 1) := dk_27 (dk_at dksX1_isSo_1 23 rfl rfl)
theorem dX1_isSo_47 : decode cX1_isSo 47 = .ok (.if_icmp .gt 82, 3) := dk_163 0 82 (dk_at dksX1_isSo_2 0 rfl rfl)
theorem dX1_isSo_50 : decode cX1_isSo 50 = .ok (.iconst 0, 1) := dk_3 (dk_at dksX1_isSo_2 3 rfl rfl)
theorem dX1_isSo_51 : decode cX1_isSo 51 = .ok (.istore_n 3, 1) := dk_62 (dk_at dksX1_isSo_2 4 rfl rfl)
theorem dX1_isSo_52 : decode cX1_isSo 52 = .ok (.iload_n 3, 1) := dk_29 (dk_at dksX1_isSo_2 5 rfl rfl)
theorem dX1_isSo_53 : decode cX1_isSo 53 = .ok (.aload_n 0, 1) := dk_42 (dk_at dksX1_isSo_2 6 rfl rfl)
theorem dX1_isSo_54 : decode cX1_isSo 54 = .ok (.getfield 68, 3) := dk_180 0 68 (dk_at dksX1_isSo_2 7 rfl rfl)
theorem dX1_isSo_57 : decode cX1_isSo 57 = .ok (.invokeinterface 121 1, 5) := by decide +kernel
theorem dX1_isSo_62 : decode cX1_isSo 62 = .ok (.if_icmp .ge 53, 3) := dk_162 0 53 (dk_at dksX1_isSo_2 15 rfl rfl)
theorem dX1_isSo_65 : decode cX1_isSo 65 = .ok (.aload_n 0, 1) := dk_42 (dk_at dksX1_isSo_2 18 rfl rfl)
theorem dX1_isSo_66 : decode cX1_isSo 66 = .ok (.getfield 68, 3) := dk_180 0 68 (dk_at dksX1_isSo_2 19 rfl rfl)
theorem dX1_isSo_69 : decode cX1_isSo 69 = .ok (.iload_n 3, 1) := dk_29 (dk_at dksX1_isSo_2 22 rfl rfl)
theorem dX1_isSo_70 : decode cX1_isSo 70 = .ok (.invokeinterface 180 2, 5) := by decide +kernel
theorem dX1_isSo_75 : decode cX1_isSo 75 = .ok (.checkcast 300, 3) := dk_192 1 44 (dk_at dksX1_isSo_3 5 rfl rfl)
theorem dX1_isSo_78 : decode cX1_isSo 78 = .ok (.astore 4, 2) := dk_58 4 (dk_at dksX1_isSo_3 8 rfl rfl)
theorem dX1_isSo_80 : decode cX1_isSo 80 = .ok (.aload 4, 2) := dk_25 4 (dk_at dksX1_isSo_3 10 rfl rfl)
theorem dX1_isSo_82 : decode cX1_isSo 82 = .ok (.iconst 1, 1) := dk_4 (dk_at dksX1_isSo_3 12 rfl rfl)
theorem dX1_isSo_83 : decode cX1_isSo 83 = .ok (.iaload, 1) := dk_46 (dk_at dksX1_isSo_3 13 rfl rfl)
theorem dX1_isSo_84 : decode cX1_isSo 84 = .ok (.iload_n 2, 1) := dk_28 (dk_at dksX1_isSo_3 14 rfl rfl)
theorem dX1_isSo_85 : decode cX1_isSo 85 = .ok (.if_icmp .ne 24, 3) := dk_160 0 24 (dk_at dksX1_isSo_3 15 rfl rfl)
theorem dX1_isSo_88 : decode cX1_isSo 88 = .ok (.aload_n 0, 1) := dk_42 (dk_at dksX1_isSo_3 18 rfl rfl)
theorem dX1_isSo_89 : decode cX1_isSo 89 = .ok (.getfield 44, 3) := dk_180 0 44 (dk_at dksX1_isSo_3 19 rfl rfl)
theorem dX1_isSo_92 : decode cX1_isSo 92 = .ok (.getfield 158, 3) := dk_180 0 158 (dk_at dksX1_isSo_4 0 rfl rfl)
theorem dX1_isSo_95 : decode cX1_isSo 95 = .ok (.aload 4, 2) := dk_25 4 (dk_at dksX1_isSo_4 3 rfl rfl)
theorem dX1_isSo_97 : decode cX1_isSo 97 = .ok (.iconst 0, 1) := dk_3 (dk_at dksX1_isSo_4 5 rfl rfl)
theorem dX1_isSo_98 : decode cX1_isSo 98 = .ok (.iaload, 1) := dk_46 (dk_at dksX1_isSo_4 6 rfl rfl)
theorem dX1_isSo_99 : decode cX1_isSo 99 = .ok (.iaload, 1) := dk_46 (dk_at dksX1_isSo_4 7 rfl rfl)
theorem dX1_isSo_100 : decode cX1_isSo 100 = .ok (.aload 4, 2) := dk_25 4 (dk_at dksX1_isSo_4 8 rfl rfl)
theorem dX1_isSo_102 : decode cX1_isSo 102 = .ok (.iconst 2, 1) := dk_5 (dk_at dksX1_isSo_4 10 rfl rfl)
theorem dX1_isSo_103 : decode cX1_isSo 103 = .ok (.iaload, 1) := dk_46 (dk_at dksX1_isSo_4 11 rfl rfl)
theorem dX1_isSo_104 : decode cX1_isSo 104 = .ok (.if_icmp .eq 5, 3) := dk_159 0 5 (dk_at dksX1_isSo_4 12 rfl rfl)
theorem dX1_isSo_107 : decode cX1_isSo 107 = .ok (.iconst 0, 1) := dk_3 (dk_at dksX1_isSo_4 15 rfl rfl)
theorem dX1_isSo_108 : decode cX1_isSo 108 = .ok (.ireturn, 1) := dk_172 (dk_at dksX1_isSo_4 16 rfl rfl)
theorem dX1_isSo_109 : decode cX1_isSo 109 = .ok (.iinc 3 1, 3) := dk_132 3 1 (dk_at dksX1_isSo_4 17 rfl rfl)
theorem dX1_isSo_112 : decode cX1_isSo 112 = .ok (.goto (-60), 3) := dk_167 255 196 (dk_at dksX1_isSo_4 20 rfl rfl)
theorem dX1_isSo_115 : decode cX1_isSo 115 = .ok (.aload_n 0, 1) := dk_42 (dk_at dksX1_isSo_4 23 rfl rfl)
theorem dX1_isSo_116 : decode cX1_isSo 116 = .ok (.getfield 44, 3) := dk_180 0 44 (dk_at dksX1_isSo_5 0 rfl rfl)
theorem dX1_isSo_119 : decode cX1_isSo 119 = .ok (.invokevirtual 237, 3) := dk_182 0 237 (dk_at dksX1_isSo_5 3 rfl rfl)
theorem dX1_isSo_122 : decode cX1_isSo 122 = .ok (.pop, 1) := dk_87 (dk_at dksX1_isSo_5 6 rfl rfl)
theorem dX1_isSo_123 : decode cX1_isSo 123 = .ok (.iinc 2 1, 3) := dk_132 2 1 (dk_at dksX1_isSo_5 7 rfl rfl)
theorem dX1_isSo_126 : decode cX1_isSo 126 = .ok (.goto (-81), 3) := dk_167 255 175 (dk_at dksX1_isSo_5 10 rfl rfl)
theorem dX1_isSo_129 : decode cX1_isSo 129 = .ok (.iconst 1, 1) := dk_4 (dk_at dksX1_isSo_5 13 rfl rfl)
theorem dX1_isSo_130 : decode cX1_isSo 130 = .ok (.ireturn, 1) := dk_172 (dk_at dksX1_isSo_5 14 rfl rfl)
abbrev cX1_gales : ByteArray := prog_1_method_58_code
def yX1_gales : MethodName := ⟨RX1, "gales", "(II)I"⟩
def dkwX1_gales_8 : List UInt8 := [29, 172]
abbrev dktX1_gales_8 : List UInt8 := dkwX1_gales_8 ++ []
def dkwX1_gales_7 : List UInt8 := [42, 180, 0, 40, 182, 0, 132, 2, 130, 126, 153, 0, 8, 29, 21, 5, 96, 62, 132, 4, 1, 167, 255, 105]
abbrev dktX1_gales_7 : List UInt8 := dkwX1_gales_7 ++ dktX1_gales_8
def dkwX1_gales_6 : List UInt8 := [167, 255, 208, 42, 180, 0, 44, 182, 0, 237, 87, 132, 6, 1, 167, 255, 162, 42, 180, 0, 44, 182, 0, 132]
abbrev dktX1_gales_6 : List UInt8 := dkwX1_gales_6 ++ dktX1_gales_7
def dkwX1_gales_5 : List UInt8 := [21, 7, 182, 0, 213, 154, 0, 14, 42, 180, 0, 44, 21, 7, 16, 15, 182, 1, 56, 132, 7, 1]
abbrev dktX1_gales_5 : List UInt8 := dkwX1_gales_5 ++ dktX1_gales_6
def dkwX1_gales_4 : List UInt8 := [180, 0, 31, 180, 0, 115, 162, 0, 42, 21, 4, 21, 6, 184, 1, 2, 153, 0, 32, 42, 180, 0, 44]
abbrev dktX1_gales_4 : List UInt8 := dkwX1_gales_4 ++ dktX1_gales_5
def dkwX1_gales_3 : List UInt8 := [184, 1, 2, 153, 0, 7, 28, 167, 0, 7, 16, 10, 28, 100, 104, 54, 5, 3, 54, 7, 21, 7, 42]
abbrev dktX1_gales_3 : List UInt8 := dkwX1_gales_3 ++ dktX1_gales_4
def dkwX1_gales_2 : List UInt8 := [180, 0, 40, 182, 0, 224, 87, 3, 54, 6, 21, 6, 27, 162, 0, 94, 21, 5, 21, 4, 21, 6]
abbrev dktX1_gales_2 : List UInt8 := dkwX1_gales_2 ++ dktX1_gales_3
def dkwX1_gales_1 : List UInt8 := [184, 0, 74, 3, 62, 3, 54, 4, 21, 4, 4, 27, 120, 162, 0, 149, 4, 54, 5, 42, 180, 0, 44, 42]
abbrev dktX1_gales_1 : List UInt8 := dkwX1_gales_1 ++ dktX1_gales_2
def dkwX1_gales_0 : List UInt8 := [27, 4, 8, 184, 0, 144, 153, 0, 17, 28, 3, 16, 10, 184, 0, 144, 153, 0, 7, 4, 167, 0, 4, 3]
abbrev dktX1_gales_0 : List UInt8 := dkwX1_gales_0 ++ dktX1_gales_1
theorem dksX1_gales_0 : cX1_gales.data.toList.drop 0 = dktX1_gales_0 := by decide +kernel
theorem dksX1_gales_1 : cX1_gales.data.toList.drop 24 = dktX1_gales_1 := dk_seg dksX1_gales_0 24 rfl rfl
theorem dksX1_gales_2 : cX1_gales.data.toList.drop 48 = dktX1_gales_2 := dk_seg dksX1_gales_1 24 rfl rfl
theorem dksX1_gales_3 : cX1_gales.data.toList.drop 70 = dktX1_gales_3 := dk_seg dksX1_gales_2 22 rfl rfl
theorem dksX1_gales_4 : cX1_gales.data.toList.drop 93 = dktX1_gales_4 := dk_seg dksX1_gales_3 23 rfl rfl
theorem dksX1_gales_5 : cX1_gales.data.toList.drop 116 = dktX1_gales_5 := dk_seg dksX1_gales_4 23 rfl rfl
theorem dksX1_gales_6 : cX1_gales.data.toList.drop 138 = dktX1_gales_6 := dk_seg dksX1_gales_5 22 rfl rfl
theorem dksX1_gales_7 : cX1_gales.data.toList.drop 162 = dktX1_gales_7 := dk_seg dksX1_gales_6 24 rfl rfl
theorem dksX1_gales_8 : cX1_gales.data.toList.drop 186 = dktX1_gales_8 := dk_seg dksX1_gales_7 24 rfl rfl
theorem dX1_gales_0 : decode cX1_gales 0 = .ok (.iload_n 1, 1) := dk_27 (dk_at dksX1_gales_0 0 rfl rfl)
theorem dX1_gales_1 : decode cX1_gales 1 = .ok (.iconst 1, 1) := dk_4 (dk_at dksX1_gales_0 1 rfl rfl)
theorem dX1_gales_2 : decode cX1_gales 2 = .ok (.iconst 5, 1) := dk_8 (dk_at dksX1_gales_0 2 rfl rfl)
theorem dX1_gales_3 : decode cX1_gales 3 = .ok (.invokestatic 144, 3) := dk_184 0 144 (dk_at dksX1_gales_0 3 rfl rfl)
theorem dX1_gales_6 : decode cX1_gales 6 = .ok (.ifCond .eq 17, 3) := dk_153 0 17 (dk_at dksX1_gales_0 6 rfl rfl)
theorem dX1_gales_9 : decode cX1_gales 9 = .ok (.iload_n 2, 1) := dk_28 (dk_at dksX1_gales_0 9 rfl rfl)
theorem dX1_gales_10 : decode cX1_gales 10 = .ok (.iconst 0, 1) := dk_3 (dk_at dksX1_gales_0 10 rfl rfl)
theorem dX1_gales_11 : decode cX1_gales 11 = .ok (.bipush 10, 2) := dk_16 10 (dk_at dksX1_gales_0 11 rfl rfl)
theorem dX1_gales_13 : decode cX1_gales 13 = .ok (.invokestatic 144, 3) := dk_184 0 144 (dk_at dksX1_gales_0 13 rfl rfl)
theorem dX1_gales_16 : decode cX1_gales 16 = .ok (.ifCond .eq 7, 3) := dk_153 0 7 (dk_at dksX1_gales_0 16 rfl rfl)
theorem dX1_gales_19 : decode cX1_gales 19 = .ok (.iconst 1, 1) := dk_4 (dk_at dksX1_gales_0 19 rfl rfl)
theorem dX1_gales_20 : decode cX1_gales 20 = .ok (.goto 4, 3) := dk_167 0 4 (dk_at dksX1_gales_0 20 rfl rfl)
theorem dX1_gales_23 : decode cX1_gales 23 = .ok (.iconst 0, 1) := dk_3 (dk_at dksX1_gales_0 23 rfl rfl)
theorem dX1_gales_24 : decode cX1_gales 24 = .ok (.invokestatic 74, 3) := dk_184 0 74 (dk_at dksX1_gales_1 0 rfl rfl)
theorem dX1_gales_27 : decode cX1_gales 27 = .ok (.iconst 0, 1) := dk_3 (dk_at dksX1_gales_1 3 rfl rfl)
theorem dX1_gales_28 : decode cX1_gales 28 = .ok (.istore_n 3, 1) := dk_62 (dk_at dksX1_gales_1 4 rfl rfl)
theorem dX1_gales_29 : decode cX1_gales 29 = .ok (.iconst 0, 1) := dk_3 (dk_at dksX1_gales_1 5 rfl rfl)
theorem dX1_gales_30 : decode cX1_gales 30 = .ok (.istore 4, 2) := dk_54 4 (dk_at dksX1_gales_1 6 rfl rfl)
theorem dX1_gales_32 : decode cX1_gales 32 = .ok (.iload 4, 2) := dk_21 4 (dk_at dksX1_gales_1 8 rfl rfl)
theorem dX1_gales_34 : decode cX1_gales 34 = .ok (.iconst 1, 1) := dk_4 (dk_at dksX1_gales_1 10 rfl rfl)
theorem dX1_gales_35 : decode cX1_gales 35 = .ok (.iload_n 1, 1) := dk_27 (dk_at dksX1_gales_1 11 rfl rfl)
theorem dX1_gales_36 : decode cX1_gales 36 = .ok (.ishl, 1) := dk_120 (dk_at dksX1_gales_1 12 rfl rfl)
theorem dX1_gales_37 : decode cX1_gales 37 = .ok (.if_icmp .ge 149, 3) := dk_162 0 149 (dk_at dksX1_gales_1 13 rfl rfl)
theorem dX1_gales_40 : decode cX1_gales 40 = .ok (.iconst 1, 1) := dk_4 (dk_at dksX1_gales_1 16 rfl rfl)
theorem dX1_gales_41 : decode cX1_gales 41 = .ok (.istore 5, 2) := dk_54 5 (dk_at dksX1_gales_1 17 rfl rfl)
theorem dX1_gales_43 : decode cX1_gales 43 = .ok (.aload_n 0, 1) := dk_42 (dk_at dksX1_gales_1 19 rfl rfl)
theorem dX1_gales_44 : decode cX1_gales 44 = .ok (.getfield 44, 3) := dk_180 0 44 (dk_at dksX1_gales_1 20 rfl rfl)
theorem dX1_gales_47 : decode cX1_gales 47 = .ok (.aload_n 0, 1) := dk_42 (dk_at dksX1_gales_1 23 rfl rfl)
theorem dX1_gales_48 : decode cX1_gales 48 = .ok (.getfield 40, 3) := dk_180 0 40 (dk_at dksX1_gales_2 0 rfl rfl)
theorem dX1_gales_51 : decode cX1_gales 51 = .ok (.invokevirtual 224, 3) := dk_182 0 224 (dk_at dksX1_gales_2 3 rfl rfl)
theorem dX1_gales_54 : decode cX1_gales 54 = .ok (.pop, 1) := dk_87 (dk_at dksX1_gales_2 6 rfl rfl)
theorem dX1_gales_55 : decode cX1_gales 55 = .ok (.iconst 0, 1) := dk_3 (dk_at dksX1_gales_2 7 rfl rfl)
theorem dX1_gales_56 : decode cX1_gales 56 = .ok (.istore 6, 2) := dk_54 6 (dk_at dksX1_gales_2 8 rfl rfl)
theorem dX1_gales_58 : decode cX1_gales 58 = .ok (.iload 6, 2) := dk_21 6 (dk_at dksX1_gales_2 10 rfl rfl)
theorem dX1_gales_60 : decode cX1_gales 60 = .ok (.iload_n 1, 1) := dk_27 (dk_at dksX1_gales_2 12 rfl rfl)
theorem dX1_gales_61 : decode cX1_gales 61 = .ok (.if_icmp .ge 94, 3) := dk_162 0 94 (dk_at dksX1_gales_2 13 rfl rfl)
theorem dX1_gales_64 : decode cX1_gales 64 = .ok (.iload 5, 2) := dk_21 5 (dk_at dksX1_gales_2 16 rfl rfl)
theorem dX1_gales_66 : decode cX1_gales 66 = .ok (.iload 4, 2) := dk_21 4 (dk_at dksX1_gales_2 18 rfl rfl)
theorem dX1_gales_68 : decode cX1_gales 68 = .ok (.iload 6, 2) := dk_21 6 (dk_at dksX1_gales_2 20 rfl rfl)
theorem dX1_gales_70 : decode cX1_gales 70 = .ok (.invokestatic 258, 3) := dk_184 1 2 (dk_at dksX1_gales_3 0 rfl rfl)
theorem dX1_gales_73 : decode cX1_gales 73 = .ok (.ifCond .eq 7, 3) := dk_153 0 7 (dk_at dksX1_gales_3 3 rfl rfl)
theorem dX1_gales_76 : decode cX1_gales 76 = .ok (.iload_n 2, 1) := dk_28 (dk_at dksX1_gales_3 6 rfl rfl)
theorem dX1_gales_77 : decode cX1_gales 77 = .ok (.goto 7, 3) := dk_167 0 7 (dk_at dksX1_gales_3 7 rfl rfl)
theorem dX1_gales_80 : decode cX1_gales 80 = .ok (.bipush 10, 2) := dk_16 10 (dk_at dksX1_gales_3 10 rfl rfl)
theorem dX1_gales_82 : decode cX1_gales 82 = .ok (.iload_n 2, 1) := dk_28 (dk_at dksX1_gales_3 12 rfl rfl)
theorem dX1_gales_83 : decode cX1_gales 83 = .ok (.isub, 1) := dk_100 (dk_at dksX1_gales_3 13 rfl rfl)
theorem dX1_gales_84 : decode cX1_gales 84 = .ok (.imul, 1) := dk_104 (dk_at dksX1_gales_3 14 rfl rfl)
theorem dX1_gales_85 : decode cX1_gales 85 = .ok (.istore 5, 2) := dk_54 5 (dk_at dksX1_gales_3 15 rfl rfl)
theorem dX1_gales_87 : decode cX1_gales 87 = .ok (.iconst 0, 1) := dk_3 (dk_at dksX1_gales_3 17 rfl rfl)
theorem dX1_gales_88 : decode cX1_gales 88 = .ok (.istore 7, 2) := dk_54 7 (dk_at dksX1_gales_3 18 rfl rfl)
theorem dX1_gales_90 : decode cX1_gales 90 = .ok (.iload 7, 2) := dk_21 7 (dk_at dksX1_gales_3 20 rfl rfl)
theorem dX1_gales_92 : decode cX1_gales 92 = .ok (.aload_n 0, 1) := dk_42 (dk_at dksX1_gales_3 22 rfl rfl)
theorem dX1_gales_93 : decode cX1_gales 93 = .ok (.getfield 31, 3) := dk_180 0 31 (dk_at dksX1_gales_4 0 rfl rfl)
theorem dX1_gales_96 : decode cX1_gales 96 = .ok (.getfield 115, 3) := dk_180 0 115 (dk_at dksX1_gales_4 3 rfl rfl)
theorem dX1_gales_99 : decode cX1_gales 99 = .ok (.if_icmp .ge 42, 3) := dk_162 0 42 (dk_at dksX1_gales_4 6 rfl rfl)
theorem dX1_gales_102 : decode cX1_gales 102 = .ok (.iload 4, 2) := dk_21 4 (dk_at dksX1_gales_4 9 rfl rfl)
theorem dX1_gales_104 : decode cX1_gales 104 = .ok (.iload 6, 2) := dk_21 6 (dk_at dksX1_gales_4 11 rfl rfl)
theorem dX1_gales_106 : decode cX1_gales 106 = .ok (.invokestatic 258, 3) := dk_184 1 2 (dk_at dksX1_gales_4 13 rfl rfl)
theorem dX1_gales_109 : decode cX1_gales 109 = .ok (.ifCond .eq 32, 3) := dk_153 0 32 (dk_at dksX1_gales_4 16 rfl rfl)
theorem dX1_gales_112 : decode cX1_gales 112 = .ok (.aload_n 0, 1) := dk_42 (dk_at dksX1_gales_4 19 rfl rfl)
theorem dX1_gales_113 : decode cX1_gales 113 = .ok (.getfield 44, 3) := dk_180 0 44 (dk_at dksX1_gales_4 20 rfl rfl)
theorem dX1_gales_116 : decode cX1_gales 116 = .ok (.iload 7, 2) := dk_21 7 (dk_at dksX1_gales_5 0 rfl rfl)
theorem dX1_gales_118 : decode cX1_gales 118 = .ok (.invokevirtual 213, 3) := dk_182 0 213 (dk_at dksX1_gales_5 2 rfl rfl)
theorem dX1_gales_121 : decode cX1_gales 121 = .ok (.ifCond .ne 14, 3) := dk_154 0 14 (dk_at dksX1_gales_5 5 rfl rfl)
theorem dX1_gales_124 : decode cX1_gales 124 = .ok (.aload_n 0, 1) := dk_42 (dk_at dksX1_gales_5 8 rfl rfl)
theorem dX1_gales_125 : decode cX1_gales 125 = .ok (.getfield 44, 3) := dk_180 0 44 (dk_at dksX1_gales_5 9 rfl rfl)
theorem dX1_gales_128 : decode cX1_gales 128 = .ok (.iload 7, 2) := dk_21 7 (dk_at dksX1_gales_5 12 rfl rfl)
theorem dX1_gales_130 : decode cX1_gales 130 = .ok (.bipush 15, 2) := dk_16 15 (dk_at dksX1_gales_5 14 rfl rfl)
theorem dX1_gales_132 : decode cX1_gales 132 = .ok (.invokevirtual 312, 3) := dk_182 1 56 (dk_at dksX1_gales_5 16 rfl rfl)
theorem dX1_gales_135 : decode cX1_gales 135 = .ok (.iinc 7 1, 3) := dk_132 7 1 (dk_at dksX1_gales_5 19 rfl rfl)
theorem dX1_gales_138 : decode cX1_gales 138 = .ok (.goto (-48), 3) := dk_167 255 208 (dk_at dksX1_gales_6 0 rfl rfl)
theorem dX1_gales_141 : decode cX1_gales 141 = .ok (.aload_n 0, 1) := dk_42 (dk_at dksX1_gales_6 3 rfl rfl)
theorem dX1_gales_142 : decode cX1_gales 142 = .ok (.getfield 44, 3) := dk_180 0 44 (dk_at dksX1_gales_6 4 rfl rfl)
theorem dX1_gales_145 : decode cX1_gales 145 = .ok (.invokevirtual 237, 3) := dk_182 0 237 (dk_at dksX1_gales_6 7 rfl rfl)
theorem dX1_gales_148 : decode cX1_gales 148 = .ok (.pop, 1) := dk_87 (dk_at dksX1_gales_6 10 rfl rfl)
theorem dX1_gales_149 : decode cX1_gales 149 = .ok (.iinc 6 1, 3) := dk_132 6 1 (dk_at dksX1_gales_6 11 rfl rfl)
theorem dX1_gales_152 : decode cX1_gales 152 = .ok (.goto (-94), 3) := dk_167 255 162 (dk_at dksX1_gales_6 14 rfl rfl)
theorem dX1_gales_155 : decode cX1_gales 155 = .ok (.aload_n 0, 1) := dk_42 (dk_at dksX1_gales_6 17 rfl rfl)
theorem dX1_gales_156 : decode cX1_gales 156 = .ok (.getfield 44, 3) := dk_180 0 44 (dk_at dksX1_gales_6 18 rfl rfl)
theorem dX1_gales_159 : decode cX1_gales 159 = .ok (.invokevirtual 132, 3) := dk_182 0 132 (dk_at dksX1_gales_6 21 rfl rfl)
theorem dX1_gales_162 : decode cX1_gales 162 = .ok (.aload_n 0, 1) := dk_42 (dk_at dksX1_gales_7 0 rfl rfl)
theorem dX1_gales_163 : decode cX1_gales 163 = .ok (.getfield 40, 3) := dk_180 0 40 (dk_at dksX1_gales_7 1 rfl rfl)
theorem dX1_gales_166 : decode cX1_gales 166 = .ok (.invokevirtual 132, 3) := dk_182 0 132 (dk_at dksX1_gales_7 4 rfl rfl)
theorem dX1_gales_169 : decode cX1_gales 169 = .ok (.iconst (-1), 1) := dk_2 (dk_at dksX1_gales_7 7 rfl rfl)
theorem dX1_gales_170 : decode cX1_gales 170 = .ok (.ixor, 1) := dk_130 (dk_at dksX1_gales_7 8 rfl rfl)
theorem dX1_gales_171 : decode cX1_gales 171 = .ok (.iand, 1) := dk_126 (dk_at dksX1_gales_7 9 rfl rfl)
theorem dX1_gales_172 : decode cX1_gales 172 = .ok (.ifCond .eq 8, 3) := dk_153 0 8 (dk_at dksX1_gales_7 10 rfl rfl)
theorem dX1_gales_175 : decode cX1_gales 175 = .ok (.iload_n 3, 1) := dk_29 (dk_at dksX1_gales_7 13 rfl rfl)
theorem dX1_gales_176 : decode cX1_gales 176 = .ok (.iload 5, 2) := dk_21 5 (dk_at dksX1_gales_7 14 rfl rfl)
theorem dX1_gales_178 : decode cX1_gales 178 = .ok (.iadd, 1) := dk_96 (dk_at dksX1_gales_7 16 rfl rfl)
theorem dX1_gales_179 : decode cX1_gales 179 = .ok (.istore_n 3, 1) := dk_62 (dk_at dksX1_gales_7 17 rfl rfl)
theorem dX1_gales_180 : decode cX1_gales 180 = .ok (.iinc 4 1, 3) := dk_132 4 1 (dk_at dksX1_gales_7 18 rfl rfl)
theorem dX1_gales_183 : decode cX1_gales 183 = .ok (.goto (-151), 3) := dk_167 255 105 (dk_at dksX1_gales_7 21 rfl rfl)
theorem dX1_gales_186 : decode cX1_gales 186 = .ok (.iload_n 3, 1) := dk_29 (dk_at dksX1_gales_8 0 rfl rfl)
theorem dX1_gales_187 : decode cX1_gales 187 = .ok (.ireturn, 1) := dk_172 (dk_at dksX1_gales_8 1 rfl rfl)
abbrev cX1_moves : ByteArray := prog_1_method_59_code
def yX1_moves : MethodName := ⟨RX1, "moves", "(IZ)V"⟩
def dkwX1_moves_0 : List UInt8 := [28, 153, 0, 11, 42, 180, 0, 44, 27, 182, 1, 59, 42, 180, 0, 44, 27, 182, 0, 210, 177]
abbrev dktX1_moves_0 : List UInt8 := dkwX1_moves_0 ++ []
theorem dksX1_moves_0 : cX1_moves.data.toList.drop 0 = dktX1_moves_0 := by decide +kernel
theorem dX1_moves_0 : decode cX1_moves 0 = .ok (.iload_n 2, 1) := dk_28 (dk_at dksX1_moves_0 0 rfl rfl)
theorem dX1_moves_1 : decode cX1_moves 1 = .ok (.ifCond .eq 11, 3) := dk_153 0 11 (dk_at dksX1_moves_0 1 rfl rfl)
theorem dX1_moves_4 : decode cX1_moves 4 = .ok (.aload_n 0, 1) := dk_42 (dk_at dksX1_moves_0 4 rfl rfl)
theorem dX1_moves_5 : decode cX1_moves 5 = .ok (.getfield 44, 3) := dk_180 0 44 (dk_at dksX1_moves_0 5 rfl rfl)
theorem dX1_moves_8 : decode cX1_moves 8 = .ok (.iload_n 1, 1) := dk_27 (dk_at dksX1_moves_0 8 rfl rfl)
theorem dX1_moves_9 : decode cX1_moves 9 = .ok (.invokevirtual 315, 3) := dk_182 1 59 (dk_at dksX1_moves_0 9 rfl rfl)
theorem dX1_moves_12 : decode cX1_moves 12 = .ok (.aload_n 0, 1) := dk_42 (dk_at dksX1_moves_0 12 rfl rfl)
theorem dX1_moves_13 : decode cX1_moves 13 = .ok (.getfield 44, 3) := dk_180 0 44 (dk_at dksX1_moves_0 13 rfl rfl)
theorem dX1_moves_16 : decode cX1_moves 16 = .ok (.iload_n 1, 1) := dk_27 (dk_at dksX1_moves_0 16 rfl rfl)
theorem dX1_moves_17 : decode cX1_moves 17 = .ok (.invokevirtual 210, 3) := dk_182 0 210 (dk_at dksX1_moves_0 17 rfl rfl)
theorem dX1_moves_20 : decode cX1_moves 20 = .ok (.return_, 1) := dk_177 (dk_at dksX1_moves_0 20 rfl rfl)
abbrev cX1_draw : ByteArray := prog_1_method_62_code
def yX1_draw : MethodName := ⟨RX1, "draw", "(I)I"⟩
def dkwX1_draw_1 : List UInt8 := [17, 127, 255, 126, 27, 112, 172]
abbrev dktX1_draw_1 : List UInt8 := dkwX1_draw_1 ++ []
def dkwX1_draw_0 : List UInt8 := [42, 42, 180, 1, 70, 19, 1, 73, 104, 17, 48, 57, 96, 181, 1, 70, 42, 180, 1, 70, 16, 16, 122]
abbrev dktX1_draw_0 : List UInt8 := dkwX1_draw_0 ++ dktX1_draw_1
theorem dksX1_draw_0 : cX1_draw.data.toList.drop 0 = dktX1_draw_0 := by decide +kernel
theorem dksX1_draw_1 : cX1_draw.data.toList.drop 23 = dktX1_draw_1 := dk_seg dksX1_draw_0 23 rfl rfl
theorem dX1_draw_0 : decode cX1_draw 0 = .ok (.aload_n 0, 1) := dk_42 (dk_at dksX1_draw_0 0 rfl rfl)
theorem dX1_draw_1 : decode cX1_draw 1 = .ok (.aload_n 0, 1) := dk_42 (dk_at dksX1_draw_0 1 rfl rfl)
theorem dX1_draw_2 : decode cX1_draw 2 = .ok (.getfield 326, 3) := dk_180 1 70 (dk_at dksX1_draw_0 2 rfl rfl)
theorem dX1_draw_5 : decode cX1_draw 5 = .ok (.ldc_w 329, 3) := dk_19 1 73 (dk_at dksX1_draw_0 5 rfl rfl)
theorem dX1_draw_8 : decode cX1_draw 8 = .ok (.imul, 1) := dk_104 (dk_at dksX1_draw_0 8 rfl rfl)
theorem dX1_draw_9 : decode cX1_draw 9 = .ok (.sipush 12345, 3) := dk_17 48 57 (dk_at dksX1_draw_0 9 rfl rfl)
theorem dX1_draw_12 : decode cX1_draw 12 = .ok (.iadd, 1) := dk_96 (dk_at dksX1_draw_0 12 rfl rfl)
theorem dX1_draw_13 : decode cX1_draw 13 = .ok (.putfield 326, 3) := dk_181 1 70 (dk_at dksX1_draw_0 13 rfl rfl)
theorem dX1_draw_16 : decode cX1_draw 16 = .ok (.aload_n 0, 1) := dk_42 (dk_at dksX1_draw_0 16 rfl rfl)
theorem dX1_draw_17 : decode cX1_draw 17 = .ok (.getfield 326, 3) := dk_180 1 70 (dk_at dksX1_draw_0 17 rfl rfl)
theorem dX1_draw_20 : decode cX1_draw 20 = .ok (.bipush 16, 2) := dk_16 16 (dk_at dksX1_draw_0 20 rfl rfl)
theorem dX1_draw_22 : decode cX1_draw 22 = .ok (.ishr, 1) := dk_122 (dk_at dksX1_draw_0 22 rfl rfl)
theorem dX1_draw_23 : decode cX1_draw 23 = .ok (.sipush 32767, 3) := dk_17 127 255 (dk_at dksX1_draw_1 0 rfl rfl)
theorem dX1_draw_26 : decode cX1_draw 26 = .ok (.iand, 1) := dk_126 (dk_at dksX1_draw_1 3 rfl rfl)
theorem dX1_draw_27 : decode cX1_draw 27 = .ok (.iload_n 1, 1) := dk_27 (dk_at dksX1_draw_1 4 rfl rfl)
theorem dX1_draw_28 : decode cX1_draw 28 = .ok (.irem, 1) := dk_112 (dk_at dksX1_draw_1 5 rfl rfl)
theorem dX1_draw_29 : decode cX1_draw 29 = .ok (.ireturn, 1) := dk_172 (dk_at dksX1_draw_1 6 rfl rfl)
abbrev cX1_befalls : ByteArray := prog_1_method_63_code
def yX1_befalls : MethodName := ⟨RX1, "befalls", "()V"⟩
def dkwX1_befalls_5 : List UInt8 := [180, 0, 105, 28, 46, 8, 96, 184, 0, 10, 79, 177]
abbrev dktX1_befalls_5 : List UInt8 := dkwX1_befalls_5 ++ []
def dkwX1_befalls_4 : List UInt8 := [180, 0, 31, 182, 0, 101, 182, 1, 74, 61, 42, 180, 0, 44, 180, 0, 105, 28, 16, 99, 42, 180, 0, 44]
abbrev dktX1_befalls_4 : List UInt8 := dkwX1_befalls_4 ++ dktX1_befalls_5
def dkwX1_befalls_3 : List UInt8 := [16, 9, 182, 1, 56, 27, 5, 160, 0, 50, 42, 180, 0, 31, 182, 0, 101, 158, 0, 40, 42, 42]
abbrev dktX1_befalls_3 : List UInt8 := dkwX1_befalls_3 ++ dktX1_befalls_4
def dkwX1_befalls_2 : List UInt8 := [29, 182, 0, 217, 27, 4, 160, 0, 23, 42, 180, 0, 44, 42, 42, 180, 0, 31, 180, 0, 115, 182, 1, 74]
abbrev dktX1_befalls_2 : List UInt8 := dkwX1_befalls_2 ++ dktX1_befalls_3
def dkwX1_befalls_1 : List UInt8 := [16, 20, 182, 1, 74, 4, 96, 62, 42, 180, 0, 44, 28, 182, 0, 213, 154, 0, 12, 42, 180, 0, 44, 28]
abbrev dktX1_befalls_1 : List UInt8 := dkwX1_befalls_1 ++ dktX1_befalls_2
def dkwX1_befalls_0 : List UInt8 := [42, 16, 6, 182, 1, 74, 60, 27, 154, 0, 44, 42, 42, 180, 0, 31, 180, 0, 115, 182, 1, 74, 61, 42]
abbrev dktX1_befalls_0 : List UInt8 := dkwX1_befalls_0 ++ dktX1_befalls_1
theorem dksX1_befalls_0 : cX1_befalls.data.toList.drop 0 = dktX1_befalls_0 := by decide +kernel
theorem dksX1_befalls_1 : cX1_befalls.data.toList.drop 24 = dktX1_befalls_1 := dk_seg dksX1_befalls_0 24 rfl rfl
theorem dksX1_befalls_2 : cX1_befalls.data.toList.drop 48 = dktX1_befalls_2 := dk_seg dksX1_befalls_1 24 rfl rfl
theorem dksX1_befalls_3 : cX1_befalls.data.toList.drop 72 = dktX1_befalls_3 := dk_seg dksX1_befalls_2 24 rfl rfl
theorem dksX1_befalls_4 : cX1_befalls.data.toList.drop 94 = dktX1_befalls_4 := dk_seg dksX1_befalls_3 22 rfl rfl
theorem dksX1_befalls_5 : cX1_befalls.data.toList.drop 118 = dktX1_befalls_5 := dk_seg dksX1_befalls_4 24 rfl rfl
theorem dX1_befalls_0 : decode cX1_befalls 0 = .ok (.aload_n 0, 1) := dk_42 (dk_at dksX1_befalls_0 0 rfl rfl)
theorem dX1_befalls_1 : decode cX1_befalls 1 = .ok (.bipush 6, 2) := dk_16 6 (dk_at dksX1_befalls_0 1 rfl rfl)
theorem dX1_befalls_3 : decode cX1_befalls 3 = .ok (.invokevirtual 330, 3) := dk_182 1 74 (dk_at dksX1_befalls_0 3 rfl rfl)
theorem dX1_befalls_6 : decode cX1_befalls 6 = .ok (.istore_n 1, 1) := dk_60 (dk_at dksX1_befalls_0 6 rfl rfl)
theorem dX1_befalls_7 : decode cX1_befalls 7 = .ok (.iload_n 1, 1) := dk_27 (dk_at dksX1_befalls_0 7 rfl rfl)
theorem dX1_befalls_8 : decode cX1_befalls 8 = .ok (.ifCond .ne 44, 3) := dk_154 0 44 (dk_at dksX1_befalls_0 8 rfl rfl)
theorem dX1_befalls_11 : decode cX1_befalls 11 = .ok (.aload_n 0, 1) := dk_42 (dk_at dksX1_befalls_0 11 rfl rfl)
theorem dX1_befalls_12 : decode cX1_befalls 12 = .ok (.aload_n 0, 1) := dk_42 (dk_at dksX1_befalls_0 12 rfl rfl)
theorem dX1_befalls_13 : decode cX1_befalls 13 = .ok (.getfield 31, 3) := dk_180 0 31 (dk_at dksX1_befalls_0 13 rfl rfl)
theorem dX1_befalls_16 : decode cX1_befalls 16 = .ok (.getfield 115, 3) := dk_180 0 115 (dk_at dksX1_befalls_0 16 rfl rfl)
theorem dX1_befalls_19 : decode cX1_befalls 19 = .ok (.invokevirtual 330, 3) := dk_182 1 74 (dk_at dksX1_befalls_0 19 rfl rfl)
theorem dX1_befalls_22 : decode cX1_befalls 22 = .ok (.istore_n 2, 1) := dk_61 (dk_at dksX1_befalls_0 22 rfl rfl)
theorem dX1_befalls_23 : decode cX1_befalls 23 = .ok (.aload_n 0, 1) := dk_42 (dk_at dksX1_befalls_0 23 rfl rfl)
theorem dX1_befalls_24 : decode cX1_befalls 24 = .ok (.bipush 20, 2) := dk_16 20 (dk_at dksX1_befalls_1 0 rfl rfl)
theorem dX1_befalls_26 : decode cX1_befalls 26 = .ok (.invokevirtual 330, 3) := dk_182 1 74 (dk_at dksX1_befalls_1 2 rfl rfl)
theorem dX1_befalls_29 : decode cX1_befalls 29 = .ok (.iconst 1, 1) := dk_4 (dk_at dksX1_befalls_1 5 rfl rfl)
theorem dX1_befalls_30 : decode cX1_befalls 30 = .ok (.iadd, 1) := dk_96 (dk_at dksX1_befalls_1 6 rfl rfl)
theorem dX1_befalls_31 : decode cX1_befalls 31 = .ok (.istore_n 3, 1) := dk_62 (dk_at dksX1_befalls_1 7 rfl rfl)
theorem dX1_befalls_32 : decode cX1_befalls 32 = .ok (.aload_n 0, 1) := dk_42 (dk_at dksX1_befalls_1 8 rfl rfl)
theorem dX1_befalls_33 : decode cX1_befalls 33 = .ok (.getfield 44, 3) := dk_180 0 44 (dk_at dksX1_befalls_1 9 rfl rfl)
theorem dX1_befalls_36 : decode cX1_befalls 36 = .ok (.iload_n 2, 1) := dk_28 (dk_at dksX1_befalls_1 12 rfl rfl)
theorem dX1_befalls_37 : decode cX1_befalls 37 = .ok (.invokevirtual 213, 3) := dk_182 0 213 (dk_at dksX1_befalls_1 13 rfl rfl)
theorem dX1_befalls_40 : decode cX1_befalls 40 = .ok (.ifCond .ne 12, 3) := dk_154 0 12 (dk_at dksX1_befalls_1 16 rfl rfl)
theorem dX1_befalls_43 : decode cX1_befalls 43 = .ok (.aload_n 0, 1) := dk_42 (dk_at dksX1_befalls_1 19 rfl rfl)
theorem dX1_befalls_44 : decode cX1_befalls 44 = .ok (.getfield 44, 3) := dk_180 0 44 (dk_at dksX1_befalls_1 20 rfl rfl)
theorem dX1_befalls_47 : decode cX1_befalls 47 = .ok (.iload_n 2, 1) := dk_28 (dk_at dksX1_befalls_1 23 rfl rfl)
theorem dX1_befalls_48 : decode cX1_befalls 48 = .ok (.iload_n 3, 1) := dk_29 (dk_at dksX1_befalls_2 0 rfl rfl)
theorem dX1_befalls_49 : decode cX1_befalls 49 = .ok (.invokevirtual 217, 3) := dk_182 0 217 (dk_at dksX1_befalls_2 1 rfl rfl)
theorem dX1_befalls_52 : decode cX1_befalls 52 = .ok (.iload_n 1, 1) := dk_27 (dk_at dksX1_befalls_2 4 rfl rfl)
theorem dX1_befalls_53 : decode cX1_befalls 53 = .ok (.iconst 1, 1) := dk_4 (dk_at dksX1_befalls_2 5 rfl rfl)
theorem dX1_befalls_54 : decode cX1_befalls 54 = .ok (.if_icmp .ne 23, 3) := dk_160 0 23 (dk_at dksX1_befalls_2 6 rfl rfl)
theorem dX1_befalls_57 : decode cX1_befalls 57 = .ok (.aload_n 0, 1) := dk_42 (dk_at dksX1_befalls_2 9 rfl rfl)
theorem dX1_befalls_58 : decode cX1_befalls 58 = .ok (.getfield 44, 3) := dk_180 0 44 (dk_at dksX1_befalls_2 10 rfl rfl)
theorem dX1_befalls_61 : decode cX1_befalls 61 = .ok (.aload_n 0, 1) := dk_42 (dk_at dksX1_befalls_2 13 rfl rfl)
theorem dX1_befalls_62 : decode cX1_befalls 62 = .ok (.aload_n 0, 1) := dk_42 (dk_at dksX1_befalls_2 14 rfl rfl)
theorem dX1_befalls_63 : decode cX1_befalls 63 = .ok (.getfield 31, 3) := dk_180 0 31 (dk_at dksX1_befalls_2 15 rfl rfl)
theorem dX1_befalls_66 : decode cX1_befalls 66 = .ok (.getfield 115, 3) := dk_180 0 115 (dk_at dksX1_befalls_2 18 rfl rfl)
theorem dX1_befalls_69 : decode cX1_befalls 69 = .ok (.invokevirtual 330, 3) := dk_182 1 74 (dk_at dksX1_befalls_2 21 rfl rfl)
theorem dX1_befalls_72 : decode cX1_befalls 72 = .ok (.bipush 9, 2) := dk_16 9 (dk_at dksX1_befalls_3 0 rfl rfl)
theorem dX1_befalls_74 : decode cX1_befalls 74 = .ok (.invokevirtual 312, 3) := dk_182 1 56 (dk_at dksX1_befalls_3 2 rfl rfl)
theorem dX1_befalls_77 : decode cX1_befalls 77 = .ok (.iload_n 1, 1) := dk_27 (dk_at dksX1_befalls_3 5 rfl rfl)
theorem dX1_befalls_78 : decode cX1_befalls 78 = .ok (.iconst 2, 1) := dk_5 (dk_at dksX1_befalls_3 6 rfl rfl)
theorem dX1_befalls_79 : decode cX1_befalls 79 = .ok (.if_icmp .ne 50, 3) := dk_160 0 50 (dk_at dksX1_befalls_3 7 rfl rfl)
theorem dX1_befalls_82 : decode cX1_befalls 82 = .ok (.aload_n 0, 1) := dk_42 (dk_at dksX1_befalls_3 10 rfl rfl)
theorem dX1_befalls_83 : decode cX1_befalls 83 = .ok (.getfield 31, 3) := dk_180 0 31 (dk_at dksX1_befalls_3 11 rfl rfl)
theorem dX1_befalls_86 : decode cX1_befalls 86 = .ok (.invokevirtual 101, 3) := dk_182 0 101 (dk_at dksX1_befalls_3 14 rfl rfl)
theorem dX1_befalls_89 : decode cX1_befalls 89 = .ok (.ifCond .le 40, 3) := dk_158 0 40 (dk_at dksX1_befalls_3 17 rfl rfl)
theorem dX1_befalls_92 : decode cX1_befalls 92 = .ok (.aload_n 0, 1) := dk_42 (dk_at dksX1_befalls_3 20 rfl rfl)
theorem dX1_befalls_93 : decode cX1_befalls 93 = .ok (.aload_n 0, 1) := dk_42 (dk_at dksX1_befalls_3 21 rfl rfl)
theorem dX1_befalls_94 : decode cX1_befalls 94 = .ok (.getfield 31, 3) := dk_180 0 31 (dk_at dksX1_befalls_4 0 rfl rfl)
theorem dX1_befalls_97 : decode cX1_befalls 97 = .ok (.invokevirtual 101, 3) := dk_182 0 101 (dk_at dksX1_befalls_4 3 rfl rfl)
theorem dX1_befalls_100 : decode cX1_befalls 100 = .ok (.invokevirtual 330, 3) := dk_182 1 74 (dk_at dksX1_befalls_4 6 rfl rfl)
theorem dX1_befalls_103 : decode cX1_befalls 103 = .ok (.istore_n 2, 1) := dk_61 (dk_at dksX1_befalls_4 9 rfl rfl)
theorem dX1_befalls_104 : decode cX1_befalls 104 = .ok (.aload_n 0, 1) := dk_42 (dk_at dksX1_befalls_4 10 rfl rfl)
theorem dX1_befalls_105 : decode cX1_befalls 105 = .ok (.getfield 44, 3) := dk_180 0 44 (dk_at dksX1_befalls_4 11 rfl rfl)
theorem dX1_befalls_108 : decode cX1_befalls 108 = .ok (.getfield 105, 3) := dk_180 0 105 (dk_at dksX1_befalls_4 14 rfl rfl)
theorem dX1_befalls_111 : decode cX1_befalls 111 = .ok (.iload_n 2, 1) := dk_28 (dk_at dksX1_befalls_4 17 rfl rfl)
theorem dX1_befalls_112 : decode cX1_befalls 112 = .ok (.bipush 99, 2) := dk_16 99 (dk_at dksX1_befalls_4 18 rfl rfl)
theorem dX1_befalls_114 : decode cX1_befalls 114 = .ok (.aload_n 0, 1) := dk_42 (dk_at dksX1_befalls_4 20 rfl rfl)
theorem dX1_befalls_115 : decode cX1_befalls 115 = .ok (.getfield 44, 3) := dk_180 0 44 (dk_at dksX1_befalls_4 21 rfl rfl)
theorem dX1_befalls_118 : decode cX1_befalls 118 = .ok (.getfield 105, 3) := dk_180 0 105 (dk_at dksX1_befalls_5 0 rfl rfl)
theorem dX1_befalls_121 : decode cX1_befalls 121 = .ok (.iload_n 2, 1) := dk_28 (dk_at dksX1_befalls_5 3 rfl rfl)
theorem dX1_befalls_122 : decode cX1_befalls 122 = .ok (.iaload, 1) := dk_46 (dk_at dksX1_befalls_5 4 rfl rfl)
theorem dX1_befalls_123 : decode cX1_befalls 123 = .ok (.iconst 5, 1) := dk_8 (dk_at dksX1_befalls_5 5 rfl rfl)
theorem dX1_befalls_124 : decode cX1_befalls 124 = .ok (.iadd, 1) := dk_96 (dk_at dksX1_befalls_5 6 rfl rfl)
theorem dX1_befalls_125 : decode cX1_befalls 125 = .ok (.invokestatic 10, 3) := dk_184 0 10 (dk_at dksX1_befalls_5 7 rfl rfl)
theorem dX1_befalls_128 : decode cX1_befalls 128 = .ok (.iastore, 1) := dk_79 (dk_at dksX1_befalls_5 10 rfl rfl)
theorem dX1_befalls_129 : decode cX1_befalls 129 = .ok (.return_, 1) := dk_177 (dk_at dksX1_befalls_5 11 rfl rfl)
abbrev cX1_years : ByteArray := prog_1_method_64_code
def yX1_years : MethodName := ⟨RX1, "years", "(III)I"⟩
def dkwX1_years_4 : List UInt8 := [182, 0, 138, 172]
abbrev dktX1_years_4 : List UInt8 := dkwX1_years_4 ++ []
def dkwX1_years_3 : List UInt8 := [167, 0, 25, 29, 4, 160, 0, 13, 42, 180, 0, 44, 182, 0, 135, 167, 0, 10, 42, 180, 0, 44]
abbrev dktX1_years_3 : List UInt8 := dkwX1_years_3 ++ dktX1_years_4
def dkwX1_years_2 : List UInt8 := [180, 0, 44, 182, 0, 237, 87, 132, 4, 1, 167, 255, 235, 29, 154, 0, 13, 42, 180, 0, 44, 182, 0, 252]
abbrev dktX1_years_2 : List UInt8 := dkwX1_years_2 ++ dktX1_years_3
def dkwX1_years_1 : List UInt8 := [42, 180, 0, 40, 182, 0, 224, 87, 3, 54, 4, 21, 4, 28, 162, 0, 21, 42, 182, 1, 77, 42]
abbrev dktX1_years_1 : List UInt8 := dkwX1_years_1 ++ dktX1_years_2
def dkwX1_years_0 : List UInt8 := [29, 5, 184, 0, 173, 28, 3, 16, 60, 184, 0, 144, 184, 0, 74, 42, 27, 181, 1, 70, 42, 180, 0, 44]
abbrev dktX1_years_0 : List UInt8 := dkwX1_years_0 ++ dktX1_years_1
theorem dksX1_years_0 : cX1_years.data.toList.drop 0 = dktX1_years_0 := by decide +kernel
theorem dksX1_years_1 : cX1_years.data.toList.drop 24 = dktX1_years_1 := dk_seg dksX1_years_0 24 rfl rfl
theorem dksX1_years_2 : cX1_years.data.toList.drop 46 = dktX1_years_2 := dk_seg dksX1_years_1 22 rfl rfl
theorem dksX1_years_3 : cX1_years.data.toList.drop 70 = dktX1_years_3 := dk_seg dksX1_years_2 24 rfl rfl
theorem dksX1_years_4 : cX1_years.data.toList.drop 92 = dktX1_years_4 := dk_seg dksX1_years_3 22 rfl rfl
theorem dX1_years_0 : decode cX1_years 0 = .ok (.iload_n 3, 1) := dk_29 (dk_at dksX1_years_0 0 rfl rfl)
theorem dX1_years_1 : decode cX1_years 1 = .ok (.iconst 2, 1) := dk_5 (dk_at dksX1_years_0 1 rfl rfl)
theorem dX1_years_2 : decode cX1_years 2 = .ok (.invokestatic 173, 3) := dk_184 0 173 (dk_at dksX1_years_0 2 rfl rfl)
theorem dX1_years_5 : decode cX1_years 5 = .ok (.iload_n 2, 1) := dk_28 (dk_at dksX1_years_0 5 rfl rfl)
theorem dX1_years_6 : decode cX1_years 6 = .ok (.iconst 0, 1) := dk_3 (dk_at dksX1_years_0 6 rfl rfl)
theorem dX1_years_7 : decode cX1_years 7 = .ok (.bipush 60, 2) := dk_16 60 (dk_at dksX1_years_0 7 rfl rfl)
theorem dX1_years_9 : decode cX1_years 9 = .ok (.invokestatic 144, 3) := dk_184 0 144 (dk_at dksX1_years_0 9 rfl rfl)
theorem dX1_years_12 : decode cX1_years 12 = .ok (.invokestatic 74, 3) := dk_184 0 74 (dk_at dksX1_years_0 12 rfl rfl)
theorem dX1_years_15 : decode cX1_years 15 = .ok (.aload_n 0, 1) := dk_42 (dk_at dksX1_years_0 15 rfl rfl)
theorem dX1_years_16 : decode cX1_years 16 = .ok (.iload_n 1, 1) := dk_27 (dk_at dksX1_years_0 16 rfl rfl)
theorem dX1_years_17 : decode cX1_years 17 = .ok (.putfield 326, 3) := dk_181 1 70 (dk_at dksX1_years_0 17 rfl rfl)
theorem dX1_years_20 : decode cX1_years 20 = .ok (.aload_n 0, 1) := dk_42 (dk_at dksX1_years_0 20 rfl rfl)
theorem dX1_years_21 : decode cX1_years 21 = .ok (.getfield 44, 3) := dk_180 0 44 (dk_at dksX1_years_0 21 rfl rfl)
theorem dX1_years_24 : decode cX1_years 24 = .ok (.aload_n 0, 1) := dk_42 (dk_at dksX1_years_1 0 rfl rfl)
theorem dX1_years_25 : decode cX1_years 25 = .ok (.getfield 40, 3) := dk_180 0 40 (dk_at dksX1_years_1 1 rfl rfl)
theorem dX1_years_28 : decode cX1_years 28 = .ok (.invokevirtual 224, 3) := dk_182 0 224 (dk_at dksX1_years_1 4 rfl rfl)
theorem dX1_years_31 : decode cX1_years 31 = .ok (.pop, 1) := dk_87 (dk_at dksX1_years_1 7 rfl rfl)
theorem dX1_years_32 : decode cX1_years 32 = .ok (.iconst 0, 1) := dk_3 (dk_at dksX1_years_1 8 rfl rfl)
theorem dX1_years_33 : decode cX1_years 33 = .ok (.istore 4, 2) := dk_54 4 (dk_at dksX1_years_1 9 rfl rfl)
theorem dX1_years_35 : decode cX1_years 35 = .ok (.iload 4, 2) := dk_21 4 (dk_at dksX1_years_1 11 rfl rfl)
theorem dX1_years_37 : decode cX1_years 37 = .ok (.iload_n 2, 1) := dk_28 (dk_at dksX1_years_1 13 rfl rfl)
theorem dX1_years_38 : decode cX1_years 38 = .ok (.if_icmp .ge 21, 3) := dk_162 0 21 (dk_at dksX1_years_1 14 rfl rfl)
theorem dX1_years_41 : decode cX1_years 41 = .ok (.aload_n 0, 1) := dk_42 (dk_at dksX1_years_1 17 rfl rfl)
theorem dX1_years_42 : decode cX1_years 42 = .ok (.invokevirtual 333, 3) := dk_182 1 77 (dk_at dksX1_years_1 18 rfl rfl)
theorem dX1_years_45 : decode cX1_years 45 = .ok (.aload_n 0, 1) := dk_42 (dk_at dksX1_years_1 21 rfl rfl)
theorem dX1_years_46 : decode cX1_years 46 = .ok (.getfield 44, 3) := dk_180 0 44 (dk_at dksX1_years_2 0 rfl rfl)
theorem dX1_years_49 : decode cX1_years 49 = .ok (.invokevirtual 237, 3) := dk_182 0 237 (dk_at dksX1_years_2 3 rfl rfl)
theorem dX1_years_52 : decode cX1_years 52 = .ok (.pop, 1) := dk_87 (dk_at dksX1_years_2 6 rfl rfl)
theorem dX1_years_53 : decode cX1_years 53 = .ok (.iinc 4 1, 3) := dk_132 4 1 (dk_at dksX1_years_2 7 rfl rfl)
theorem dX1_years_56 : decode cX1_years 56 = .ok (.goto (-21), 3) := dk_167 255 235 (dk_at dksX1_years_2 10 rfl rfl)
theorem dX1_years_59 : decode cX1_years 59 = .ok (.iload_n 3, 1) := dk_29 (dk_at dksX1_years_2 13 rfl rfl)
theorem dX1_years_60 : decode cX1_years 60 = .ok (.ifCond .ne 13, 3) := dk_154 0 13 (dk_at dksX1_years_2 14 rfl rfl)
theorem dX1_years_63 : decode cX1_years 63 = .ok (.aload_n 0, 1) := dk_42 (dk_at dksX1_years_2 17 rfl rfl)
theorem dX1_years_64 : decode cX1_years 64 = .ok (.getfield 44, 3) := dk_180 0 44 (dk_at dksX1_years_2 18 rfl rfl)
theorem dX1_years_67 : decode cX1_years 67 = .ok (.invokevirtual 252, 3) := dk_182 0 252 (dk_at dksX1_years_2 21 rfl rfl)
theorem dX1_years_70 : decode cX1_years 70 = .ok (.goto 25, 3) := dk_167 0 25 (dk_at dksX1_years_3 0 rfl rfl)
theorem dX1_years_73 : decode cX1_years 73 = .ok (.iload_n 3, 1) := dk_29 (dk_at dksX1_years_3 3 rfl rfl)
theorem dX1_years_74 : decode cX1_years 74 = .ok (.iconst 1, 1) := dk_4 (dk_at dksX1_years_3 4 rfl rfl)
theorem dX1_years_75 : decode cX1_years 75 = .ok (.if_icmp .ne 13, 3) := dk_160 0 13 (dk_at dksX1_years_3 5 rfl rfl)
theorem dX1_years_78 : decode cX1_years 78 = .ok (.aload_n 0, 1) := dk_42 (dk_at dksX1_years_3 8 rfl rfl)
theorem dX1_years_79 : decode cX1_years 79 = .ok (.getfield 44, 3) := dk_180 0 44 (dk_at dksX1_years_3 9 rfl rfl)
theorem dX1_years_82 : decode cX1_years 82 = .ok (.invokevirtual 135, 3) := dk_182 0 135 (dk_at dksX1_years_3 12 rfl rfl)
theorem dX1_years_85 : decode cX1_years 85 = .ok (.goto 10, 3) := dk_167 0 10 (dk_at dksX1_years_3 15 rfl rfl)
theorem dX1_years_88 : decode cX1_years 88 = .ok (.aload_n 0, 1) := dk_42 (dk_at dksX1_years_3 18 rfl rfl)
theorem dX1_years_89 : decode cX1_years 89 = .ok (.getfield 44, 3) := dk_180 0 44 (dk_at dksX1_years_3 19 rfl rfl)
theorem dX1_years_92 : decode cX1_years 92 = .ok (.invokevirtual 138, 3) := dk_182 0 138 (dk_at dksX1_years_4 0 rfl rfl)
theorem dX1_years_95 : decode cX1_years 95 = .ok (.ireturn, 1) := dk_172 (dk_at dksX1_years_4 3 rfl rfl)
abbrev cX1_nearest : ByteArray := prog_1_method_44_code
def yX1_nearest : MethodName := ⟨RX1, "nearest", "(I)I"⟩
def dkwX1_nearest_2 : List UInt8 := [167, 255, 220, 28, 172]
abbrev dktX1_nearest_2 : List UInt8 := dkwX1_nearest_2 ++ []
def dkwX1_nearest_1 : List UInt8 := [159, 0, 18, 42, 29, 27, 182, 1, 10, 42, 28, 27, 182, 1, 10, 162, 0, 5, 29, 61, 132, 3, 1]
abbrev dktX1_nearest_1 : List UInt8 := dkwX1_nearest_1 ++ dktX1_nearest_2
def dkwX1_nearest_0 : List UInt8 := [42, 27, 182, 0, 151, 2, 61, 3, 62, 29, 42, 180, 0, 31, 182, 0, 101, 162, 0, 31, 28, 2]
abbrev dktX1_nearest_0 : List UInt8 := dkwX1_nearest_0 ++ dktX1_nearest_1
theorem dksX1_nearest_0 : cX1_nearest.data.toList.drop 0 = dktX1_nearest_0 := by decide +kernel
theorem dksX1_nearest_1 : cX1_nearest.data.toList.drop 22 = dktX1_nearest_1 := dk_seg dksX1_nearest_0 22 rfl rfl
theorem dksX1_nearest_2 : cX1_nearest.data.toList.drop 45 = dktX1_nearest_2 := dk_seg dksX1_nearest_1 23 rfl rfl
theorem dX1_nearest_0 : decode cX1_nearest 0 = .ok (.aload_n 0, 1) := dk_42 (dk_at dksX1_nearest_0 0 rfl rfl)
theorem dX1_nearest_1 : decode cX1_nearest 1 = .ok (.iload_n 1, 1) := dk_27 (dk_at dksX1_nearest_0 1 rfl rfl)
theorem dX1_nearest_2 : decode cX1_nearest 2 = .ok (.invokevirtual 151, 3) := dk_182 0 151 (dk_at dksX1_nearest_0 2 rfl rfl)
theorem dX1_nearest_5 : decode cX1_nearest 5 = .ok (.iconst (-1), 1) := dk_2 (dk_at dksX1_nearest_0 5 rfl rfl)
theorem dX1_nearest_6 : decode cX1_nearest 6 = .ok (.istore_n 2, 1) := dk_61 (dk_at dksX1_nearest_0 6 rfl rfl)
theorem dX1_nearest_7 : decode cX1_nearest 7 = .ok (.iconst 0, 1) := dk_3 (dk_at dksX1_nearest_0 7 rfl rfl)
theorem dX1_nearest_8 : decode cX1_nearest 8 = .ok (.istore_n 3, 1) := dk_62 (dk_at dksX1_nearest_0 8 rfl rfl)
theorem dX1_nearest_9 : decode cX1_nearest 9 = .ok (.iload_n 3, 1) := dk_29 (dk_at dksX1_nearest_0 9 rfl rfl)
theorem dX1_nearest_10 : decode cX1_nearest 10 = .ok (.aload_n 0, 1) := dk_42 (dk_at dksX1_nearest_0 10 rfl rfl)
theorem dX1_nearest_11 : decode cX1_nearest 11 = .ok (.getfield 31, 3) := dk_180 0 31 (dk_at dksX1_nearest_0 11 rfl rfl)
theorem dX1_nearest_14 : decode cX1_nearest 14 = .ok (.invokevirtual 101, 3) := dk_182 0 101 (dk_at dksX1_nearest_0 14 rfl rfl)
theorem dX1_nearest_17 : decode cX1_nearest 17 = .ok (.if_icmp .ge 31, 3) := dk_162 0 31 (dk_at dksX1_nearest_0 17 rfl rfl)
theorem dX1_nearest_20 : decode cX1_nearest 20 = .ok (.iload_n 2, 1) := dk_28 (dk_at dksX1_nearest_0 20 rfl rfl)
theorem dX1_nearest_21 : decode cX1_nearest 21 = .ok (.iconst (-1), 1) := dk_2 (dk_at dksX1_nearest_0 21 rfl rfl)
theorem dX1_nearest_22 : decode cX1_nearest 22 = .ok (.if_icmp .eq 18, 3) := dk_159 0 18 (dk_at dksX1_nearest_1 0 rfl rfl)
theorem dX1_nearest_25 : decode cX1_nearest 25 = .ok (.aload_n 0, 1) := dk_42 (dk_at dksX1_nearest_1 3 rfl rfl)
theorem dX1_nearest_26 : decode cX1_nearest 26 = .ok (.iload_n 3, 1) := dk_29 (dk_at dksX1_nearest_1 4 rfl rfl)
theorem dX1_nearest_27 : decode cX1_nearest 27 = .ok (.iload_n 1, 1) := dk_27 (dk_at dksX1_nearest_1 5 rfl rfl)
theorem dX1_nearest_28 : decode cX1_nearest 28 = .ok (.invokevirtual 266, 3) := dk_182 1 10 (dk_at dksX1_nearest_1 6 rfl rfl)
theorem dX1_nearest_31 : decode cX1_nearest 31 = .ok (.aload_n 0, 1) := dk_42 (dk_at dksX1_nearest_1 9 rfl rfl)
theorem dX1_nearest_32 : decode cX1_nearest 32 = .ok (.iload_n 2, 1) := dk_28 (dk_at dksX1_nearest_1 10 rfl rfl)
theorem dX1_nearest_33 : decode cX1_nearest 33 = .ok (.iload_n 1, 1) := dk_27 (dk_at dksX1_nearest_1 11 rfl rfl)
theorem dX1_nearest_34 : decode cX1_nearest 34 = .ok (.invokevirtual 266, 3) := dk_182 1 10 (dk_at dksX1_nearest_1 12 rfl rfl)
theorem dX1_nearest_37 : decode cX1_nearest 37 = .ok (.if_icmp .ge 5, 3) := dk_162 0 5 (dk_at dksX1_nearest_1 15 rfl rfl)
theorem dX1_nearest_40 : decode cX1_nearest 40 = .ok (.iload_n 3, 1) := dk_29 (dk_at dksX1_nearest_1 18 rfl rfl)
theorem dX1_nearest_41 : decode cX1_nearest 41 = .ok (.istore_n 2, 1) := dk_61 (dk_at dksX1_nearest_1 19 rfl rfl)
theorem dX1_nearest_42 : decode cX1_nearest 42 = .ok (.iinc 3 1, 3) := dk_132 3 1 (dk_at dksX1_nearest_1 20 rfl rfl)
theorem dX1_nearest_45 : decode cX1_nearest 45 = .ok (.goto (-36), 3) := dk_167 255 220 (dk_at dksX1_nearest_2 0 rfl rfl)
theorem dX1_nearest_48 : decode cX1_nearest 48 = .ok (.iload_n 2, 1) := dk_28 (dk_at dksX1_nearest_2 3 rfl rfl)
theorem dX1_nearest_49 : decode cX1_nearest 49 = .ok (.ireturn, 1) := dk_172 (dk_at dksX1_nearest_2 4 rfl rfl)
abbrev cX1_far : ByteArray := prog_1_method_45_code
def yX1_far : MethodName := ⟨RX1, "far", "(II)I"⟩
def dkwX1_far_0 : List UInt8 := [42, 27, 182, 0, 151, 42, 28, 182, 0, 151, 42, 180, 0, 31, 27, 28, 182, 1, 5, 172]
abbrev dktX1_far_0 : List UInt8 := dkwX1_far_0 ++ []
theorem dksX1_far_0 : cX1_far.data.toList.drop 0 = dktX1_far_0 := by decide +kernel
theorem dX1_far_0 : decode cX1_far 0 = .ok (.aload_n 0, 1) := dk_42 (dk_at dksX1_far_0 0 rfl rfl)
theorem dX1_far_1 : decode cX1_far 1 = .ok (.iload_n 1, 1) := dk_27 (dk_at dksX1_far_0 1 rfl rfl)
theorem dX1_far_2 : decode cX1_far 2 = .ok (.invokevirtual 151, 3) := dk_182 0 151 (dk_at dksX1_far_0 2 rfl rfl)
theorem dX1_far_5 : decode cX1_far 5 = .ok (.aload_n 0, 1) := dk_42 (dk_at dksX1_far_0 5 rfl rfl)
theorem dX1_far_6 : decode cX1_far 6 = .ok (.iload_n 2, 1) := dk_28 (dk_at dksX1_far_0 6 rfl rfl)
theorem dX1_far_7 : decode cX1_far 7 = .ok (.invokevirtual 151, 3) := dk_182 0 151 (dk_at dksX1_far_0 7 rfl rfl)
theorem dX1_far_10 : decode cX1_far 10 = .ok (.aload_n 0, 1) := dk_42 (dk_at dksX1_far_0 10 rfl rfl)
theorem dX1_far_11 : decode cX1_far 11 = .ok (.getfield 31, 3) := dk_180 0 31 (dk_at dksX1_far_0 11 rfl rfl)
theorem dX1_far_14 : decode cX1_far 14 = .ok (.iload_n 1, 1) := dk_27 (dk_at dksX1_far_0 14 rfl rfl)
theorem dX1_far_15 : decode cX1_far 15 = .ok (.iload_n 2, 1) := dk_28 (dk_at dksX1_far_0 15 rfl rfl)
theorem dX1_far_16 : decode cX1_far 16 = .ok (.invokevirtual 261, 3) := dk_182 1 5 (dk_at dksX1_far_0 16 rfl rfl)
theorem dX1_far_19 : decode cX1_far 19 = .ok (.ireturn, 1) := dk_172 (dk_at dksX1_far_0 19 rfl rfl)
abbrev cX1_worst : ByteArray := prog_1_method_39_code
def yX1_worst : MethodName := ⟨RX1, "worst", "(I)I"⟩
def dkwX1_worst_4 : List UInt8 := [132, 4, 1, 167, 255, 180, 28, 172]
abbrev dktX1_worst_4 : List UInt8 := dkwX1_worst_4 ++ []
def dkwX1_worst_3 : List UInt8 := [182, 0, 206, 182, 0, 252, 54, 5, 21, 5, 29, 163, 0, 6, 167, 0, 9, 21, 4, 61, 21, 5, 62]
abbrev dktX1_worst_3 : List UInt8 := dkwX1_worst_3 ++ dktX1_worst_4
def dkwX1_worst_2 : List UInt8 := [180, 0, 44, 42, 180, 0, 40, 182, 0, 224, 21, 4, 27, 182, 0, 217, 42, 180, 0, 44, 16, 7]
abbrev dktX1_worst_2 : List UInt8 := dkwX1_worst_2 ++ dktX1_worst_3
def dkwX1_worst_1 : List UInt8 := [180, 0, 115, 162, 0, 70, 42, 180, 0, 40, 21, 4, 182, 0, 213, 153, 0, 6, 167, 0, 49, 42]
abbrev dktX1_worst_1 : List UInt8 := dkwX1_worst_1 ++ dktX1_worst_2
def dkwX1_worst_0 : List UInt8 := [27, 4, 16, 50, 184, 0, 144, 184, 0, 74, 2, 61, 2, 62, 3, 54, 4, 21, 4, 42, 180, 0, 31]
abbrev dktX1_worst_0 : List UInt8 := dkwX1_worst_0 ++ dktX1_worst_1
theorem dksX1_worst_0 : cX1_worst.data.toList.drop 0 = dktX1_worst_0 := by decide +kernel
theorem dksX1_worst_1 : cX1_worst.data.toList.drop 23 = dktX1_worst_1 := dk_seg dksX1_worst_0 23 rfl rfl
theorem dksX1_worst_2 : cX1_worst.data.toList.drop 45 = dktX1_worst_2 := dk_seg dksX1_worst_1 22 rfl rfl
theorem dksX1_worst_3 : cX1_worst.data.toList.drop 67 = dktX1_worst_3 := dk_seg dksX1_worst_2 22 rfl rfl
theorem dksX1_worst_4 : cX1_worst.data.toList.drop 90 = dktX1_worst_4 := dk_seg dksX1_worst_3 23 rfl rfl
theorem dX1_worst_0 : decode cX1_worst 0 = .ok (.iload_n 1, 1) := dk_27 (dk_at dksX1_worst_0 0 rfl rfl)
theorem dX1_worst_1 : decode cX1_worst 1 = .ok (.iconst 1, 1) := dk_4 (dk_at dksX1_worst_0 1 rfl rfl)
theorem dX1_worst_2 : decode cX1_worst 2 = .ok (.bipush 50, 2) := dk_16 50 (dk_at dksX1_worst_0 2 rfl rfl)
theorem dX1_worst_4 : decode cX1_worst 4 = .ok (.invokestatic 144, 3) := dk_184 0 144 (dk_at dksX1_worst_0 4 rfl rfl)
theorem dX1_worst_7 : decode cX1_worst 7 = .ok (.invokestatic 74, 3) := dk_184 0 74 (dk_at dksX1_worst_0 7 rfl rfl)
theorem dX1_worst_10 : decode cX1_worst 10 = .ok (.iconst (-1), 1) := dk_2 (dk_at dksX1_worst_0 10 rfl rfl)
theorem dX1_worst_11 : decode cX1_worst 11 = .ok (.istore_n 2, 1) := dk_61 (dk_at dksX1_worst_0 11 rfl rfl)
theorem dX1_worst_12 : decode cX1_worst 12 = .ok (.iconst (-1), 1) := dk_2 (dk_at dksX1_worst_0 12 rfl rfl)
theorem dX1_worst_13 : decode cX1_worst 13 = .ok (.istore_n 3, 1) := dk_62 (dk_at dksX1_worst_0 13 rfl rfl)
theorem dX1_worst_14 : decode cX1_worst 14 = .ok (.iconst 0, 1) := dk_3 (dk_at dksX1_worst_0 14 rfl rfl)
theorem dX1_worst_15 : decode cX1_worst 15 = .ok (.istore 4, 2) := dk_54 4 (dk_at dksX1_worst_0 15 rfl rfl)
theorem dX1_worst_17 : decode cX1_worst 17 = .ok (.iload 4, 2) := dk_21 4 (dk_at dksX1_worst_0 17 rfl rfl)
theorem dX1_worst_19 : decode cX1_worst 19 = .ok (.aload_n 0, 1) := dk_42 (dk_at dksX1_worst_0 19 rfl rfl)
theorem dX1_worst_20 : decode cX1_worst 20 = .ok (.getfield 31, 3) := dk_180 0 31 (dk_at dksX1_worst_0 20 rfl rfl)
theorem dX1_worst_23 : decode cX1_worst 23 = .ok (.getfield 115, 3) := dk_180 0 115 (dk_at dksX1_worst_1 0 rfl rfl)
theorem dX1_worst_26 : decode cX1_worst 26 = .ok (.if_icmp .ge 70, 3) := dk_162 0 70 (dk_at dksX1_worst_1 3 rfl rfl)
theorem dX1_worst_29 : decode cX1_worst 29 = .ok (.aload_n 0, 1) := dk_42 (dk_at dksX1_worst_1 6 rfl rfl)
theorem dX1_worst_30 : decode cX1_worst 30 = .ok (.getfield 40, 3) := dk_180 0 40 (dk_at dksX1_worst_1 7 rfl rfl)
theorem dX1_worst_33 : decode cX1_worst 33 = .ok (.iload 4, 2) := dk_21 4 (dk_at dksX1_worst_1 10 rfl rfl)
theorem dX1_worst_35 : decode cX1_worst 35 = .ok (.invokevirtual 213, 3) := dk_182 0 213 (dk_at dksX1_worst_1 12 rfl rfl)
theorem dX1_worst_38 : decode cX1_worst 38 = .ok (.ifCond .eq 6, 3) := dk_153 0 6 (dk_at dksX1_worst_1 15 rfl rfl)
theorem dX1_worst_41 : decode cX1_worst 41 = .ok (.goto 49, 3) := dk_167 0 49 (dk_at dksX1_worst_1 18 rfl rfl)
theorem dX1_worst_44 : decode cX1_worst 44 = .ok (.aload_n 0, 1) := dk_42 (dk_at dksX1_worst_1 21 rfl rfl)
theorem dX1_worst_45 : decode cX1_worst 45 = .ok (.getfield 44, 3) := dk_180 0 44 (dk_at dksX1_worst_2 0 rfl rfl)
theorem dX1_worst_48 : decode cX1_worst 48 = .ok (.aload_n 0, 1) := dk_42 (dk_at dksX1_worst_2 3 rfl rfl)
theorem dX1_worst_49 : decode cX1_worst 49 = .ok (.getfield 40, 3) := dk_180 0 40 (dk_at dksX1_worst_2 4 rfl rfl)
theorem dX1_worst_52 : decode cX1_worst 52 = .ok (.invokevirtual 224, 3) := dk_182 0 224 (dk_at dksX1_worst_2 7 rfl rfl)
theorem dX1_worst_55 : decode cX1_worst 55 = .ok (.iload 4, 2) := dk_21 4 (dk_at dksX1_worst_2 10 rfl rfl)
theorem dX1_worst_57 : decode cX1_worst 57 = .ok (.iload_n 1, 1) := dk_27 (dk_at dksX1_worst_2 12 rfl rfl)
theorem dX1_worst_58 : decode cX1_worst 58 = .ok (.invokevirtual 217, 3) := dk_182 0 217 (dk_at dksX1_worst_2 13 rfl rfl)
theorem dX1_worst_61 : decode cX1_worst 61 = .ok (.aload_n 0, 1) := dk_42 (dk_at dksX1_worst_2 16 rfl rfl)
theorem dX1_worst_62 : decode cX1_worst 62 = .ok (.getfield 44, 3) := dk_180 0 44 (dk_at dksX1_worst_2 17 rfl rfl)
theorem dX1_worst_65 : decode cX1_worst 65 = .ok (.bipush 7, 2) := dk_16 7 (dk_at dksX1_worst_2 20 rfl rfl)
theorem dX1_worst_67 : decode cX1_worst 67 = .ok (.invokevirtual 206, 3) := dk_182 0 206 (dk_at dksX1_worst_3 0 rfl rfl)
theorem dX1_worst_70 : decode cX1_worst 70 = .ok (.invokevirtual 252, 3) := dk_182 0 252 (dk_at dksX1_worst_3 3 rfl rfl)
theorem dX1_worst_73 : decode cX1_worst 73 = .ok (.istore 5, 2) := dk_54 5 (dk_at dksX1_worst_3 6 rfl rfl)
theorem dX1_worst_75 : decode cX1_worst 75 = .ok (.iload 5, 2) := dk_21 5 (dk_at dksX1_worst_3 8 rfl rfl)
theorem dX1_worst_77 : decode cX1_worst 77 = .ok (.iload_n 3, 1) := dk_29 (dk_at dksX1_worst_3 10 rfl rfl)
theorem dX1_worst_78 : decode cX1_worst 78 = .ok (.if_icmp .gt 6, 3) := dk_163 0 6 (dk_at dksX1_worst_3 11 rfl rfl)
theorem dX1_worst_81 : decode cX1_worst 81 = .ok (.goto 9, 3) := dk_167 0 9 (dk_at dksX1_worst_3 14 rfl rfl)
theorem dX1_worst_84 : decode cX1_worst 84 = .ok (.iload 4, 2) := dk_21 4 (dk_at dksX1_worst_3 17 rfl rfl)
theorem dX1_worst_86 : decode cX1_worst 86 = .ok (.istore_n 2, 1) := dk_61 (dk_at dksX1_worst_3 19 rfl rfl)
theorem dX1_worst_87 : decode cX1_worst 87 = .ok (.iload 5, 2) := dk_21 5 (dk_at dksX1_worst_3 20 rfl rfl)
theorem dX1_worst_89 : decode cX1_worst 89 = .ok (.istore_n 3, 1) := dk_62 (dk_at dksX1_worst_3 22 rfl rfl)
theorem dX1_worst_90 : decode cX1_worst 90 = .ok (.iinc 4 1, 3) := dk_132 4 1 (dk_at dksX1_worst_4 0 rfl rfl)
theorem dX1_worst_93 : decode cX1_worst 93 = .ok (.goto (-76), 3) := dk_167 255 180 (dk_at dksX1_worst_4 3 rfl rfl)
theorem dX1_worst_96 : decode cX1_worst 96 = .ok (.iload_n 2, 1) := dk_28 (dk_at dksX1_worst_4 6 rfl rfl)
theorem dX1_worst_97 : decode cX1_worst 97 = .ok (.ireturn, 1) := dk_172 (dk_at dksX1_worst_4 7 rfl rfl)
abbrev cX1_meet : ByteArray := prog_1_method_65_code
def yX1_meet : MethodName := ⟨RX1, "meet", "(II)I"⟩
def dkwX1_meet_3 : List UInt8 := [2, 172]
abbrev dktX1_meet_3 : List UInt8 := dkwX1_meet_3 ++ []
def dkwX1_meet_2 : List UInt8 := [180, 0, 108, 28, 46, 160, 0, 5, 29, 172, 42, 180, 0, 44, 182, 0, 237, 87, 132, 3, 1, 167, 255, 211]
abbrev dktX1_meet_2 : List UInt8 := dkwX1_meet_2 ++ dktX1_meet_3
def dkwX1_meet_1 : List UInt8 := [29, 16, 60, 163, 0, 45, 27, 28, 159, 0, 40, 42, 180, 0, 44, 180, 0, 108, 27, 46, 42, 180, 0, 44]
abbrev dktX1_meet_1 : List UInt8 := dkwX1_meet_1 ++ dktX1_meet_2
def dkwX1_meet_0 : List UInt8 := [42, 27, 182, 0, 170, 42, 28, 182, 0, 170, 42, 180, 0, 44, 42, 180, 0, 40, 182, 0, 224, 87, 3, 62]
abbrev dktX1_meet_0 : List UInt8 := dkwX1_meet_0 ++ dktX1_meet_1
theorem dksX1_meet_0 : cX1_meet.data.toList.drop 0 = dktX1_meet_0 := by decide +kernel
theorem dksX1_meet_1 : cX1_meet.data.toList.drop 24 = dktX1_meet_1 := dk_seg dksX1_meet_0 24 rfl rfl
theorem dksX1_meet_2 : cX1_meet.data.toList.drop 48 = dktX1_meet_2 := dk_seg dksX1_meet_1 24 rfl rfl
theorem dksX1_meet_3 : cX1_meet.data.toList.drop 72 = dktX1_meet_3 := dk_seg dksX1_meet_2 24 rfl rfl
theorem dX1_meet_0 : decode cX1_meet 0 = .ok (.aload_n 0, 1) := dk_42 (dk_at dksX1_meet_0 0 rfl rfl)
theorem dX1_meet_1 : decode cX1_meet 1 = .ok (.iload_n 1, 1) := dk_27 (dk_at dksX1_meet_0 1 rfl rfl)
theorem dX1_meet_2 : decode cX1_meet 2 = .ok (.invokevirtual 170, 3) := dk_182 0 170 (dk_at dksX1_meet_0 2 rfl rfl)
theorem dX1_meet_5 : decode cX1_meet 5 = .ok (.aload_n 0, 1) := dk_42 (dk_at dksX1_meet_0 5 rfl rfl)
theorem dX1_meet_6 : decode cX1_meet 6 = .ok (.iload_n 2, 1) := dk_28 (dk_at dksX1_meet_0 6 rfl rfl)
theorem dX1_meet_7 : decode cX1_meet 7 = .ok (.invokevirtual 170, 3) := dk_182 0 170 (dk_at dksX1_meet_0 7 rfl rfl)
theorem dX1_meet_10 : decode cX1_meet 10 = .ok (.aload_n 0, 1) := dk_42 (dk_at dksX1_meet_0 10 rfl rfl)
theorem dX1_meet_11 : decode cX1_meet 11 = .ok (.getfield 44, 3) := dk_180 0 44 (dk_at dksX1_meet_0 11 rfl rfl)
theorem dX1_meet_14 : decode cX1_meet 14 = .ok (.aload_n 0, 1) := dk_42 (dk_at dksX1_meet_0 14 rfl rfl)
theorem dX1_meet_15 : decode cX1_meet 15 = .ok (.getfield 40, 3) := dk_180 0 40 (dk_at dksX1_meet_0 15 rfl rfl)
theorem dX1_meet_18 : decode cX1_meet 18 = .ok (.invokevirtual 224, 3) := dk_182 0 224 (dk_at dksX1_meet_0 18 rfl rfl)
theorem dX1_meet_21 : decode cX1_meet 21 = .ok (.pop, 1) := dk_87 (dk_at dksX1_meet_0 21 rfl rfl)
theorem dX1_meet_22 : decode cX1_meet 22 = .ok (.iconst 0, 1) := dk_3 (dk_at dksX1_meet_0 22 rfl rfl)
theorem dX1_meet_23 : decode cX1_meet 23 = .ok (.istore_n 3, 1) := dk_62 (dk_at dksX1_meet_0 23 rfl rfl)
theorem dX1_meet_24 : decode cX1_meet 24 = .ok (.iload_n 3, 1) := dk_29 (dk_at dksX1_meet_1 0 rfl rfl)
theorem dX1_meet_25 : decode cX1_meet 25 = .ok (.bipush 60, 2) := dk_16 60 (dk_at dksX1_meet_1 1 rfl rfl)
theorem dX1_meet_27 : decode cX1_meet 27 = .ok (.if_icmp .gt 45, 3) := dk_163 0 45 (dk_at dksX1_meet_1 3 rfl rfl)
theorem dX1_meet_30 : decode cX1_meet 30 = .ok (.iload_n 1, 1) := dk_27 (dk_at dksX1_meet_1 6 rfl rfl)
theorem dX1_meet_31 : decode cX1_meet 31 = .ok (.iload_n 2, 1) := dk_28 (dk_at dksX1_meet_1 7 rfl rfl)
theorem dX1_meet_32 : decode cX1_meet 32 = .ok (.if_icmp .eq 40, 3) := dk_159 0 40 (dk_at dksX1_meet_1 8 rfl rfl)
theorem dX1_meet_35 : decode cX1_meet 35 = .ok (.aload_n 0, 1) := dk_42 (dk_at dksX1_meet_1 11 rfl rfl)
theorem dX1_meet_36 : decode cX1_meet 36 = .ok (.getfield 44, 3) := dk_180 0 44 (dk_at dksX1_meet_1 12 rfl rfl)
theorem dX1_meet_39 : decode cX1_meet 39 = .ok (.getfield 108, 3) := dk_180 0 108 (dk_at dksX1_meet_1 15 rfl rfl)
theorem dX1_meet_42 : decode cX1_meet 42 = .ok (.iload_n 1, 1) := dk_27 (dk_at dksX1_meet_1 18 rfl rfl)
theorem dX1_meet_43 : decode cX1_meet 43 = .ok (.iaload, 1) := dk_46 (dk_at dksX1_meet_1 19 rfl rfl)
theorem dX1_meet_44 : decode cX1_meet 44 = .ok (.aload_n 0, 1) := dk_42 (dk_at dksX1_meet_1 20 rfl rfl)
theorem dX1_meet_45 : decode cX1_meet 45 = .ok (.getfield 44, 3) := dk_180 0 44 (dk_at dksX1_meet_1 21 rfl rfl)
theorem dX1_meet_48 : decode cX1_meet 48 = .ok (.getfield 108, 3) := dk_180 0 108 (dk_at dksX1_meet_2 0 rfl rfl)
theorem dX1_meet_51 : decode cX1_meet 51 = .ok (.iload_n 2, 1) := dk_28 (dk_at dksX1_meet_2 3 rfl rfl)
theorem dX1_meet_52 : decode cX1_meet 52 = .ok (.iaload, 1) := dk_46 (dk_at dksX1_meet_2 4 rfl rfl)
theorem dX1_meet_53 : decode cX1_meet 53 = .ok (.if_icmp .ne 5, 3) := dk_160 0 5 (dk_at dksX1_meet_2 5 rfl rfl)
theorem dX1_meet_56 : decode cX1_meet 56 = .ok (.iload_n 3, 1) := dk_29 (dk_at dksX1_meet_2 8 rfl rfl)
theorem dX1_meet_57 : decode cX1_meet 57 = .ok (.ireturn, 1) := dk_172 (dk_at dksX1_meet_2 9 rfl rfl)
theorem dX1_meet_58 : decode cX1_meet 58 = .ok (.aload_n 0, 1) := dk_42 (dk_at dksX1_meet_2 10 rfl rfl)
theorem dX1_meet_59 : decode cX1_meet 59 = .ok (.getfield 44, 3) := dk_180 0 44 (dk_at dksX1_meet_2 11 rfl rfl)
theorem dX1_meet_62 : decode cX1_meet 62 = .ok (.invokevirtual 237, 3) := dk_182 0 237 (dk_at dksX1_meet_2 14 rfl rfl)
theorem dX1_meet_65 : decode cX1_meet 65 = .ok (.pop, 1) := dk_87 (dk_at dksX1_meet_2 17 rfl rfl)
theorem dX1_meet_66 : decode cX1_meet 66 = .ok (.iinc 3 1, 3) := dk_132 3 1 (dk_at dksX1_meet_2 18 rfl rfl)
theorem dX1_meet_69 : decode cX1_meet 69 = .ok (.goto (-45), 3) := dk_167 255 211 (dk_at dksX1_meet_2 21 rfl rfl)
theorem dX1_meet_72 : decode cX1_meet 72 = .ok (.iconst (-1), 1) := dk_2 (dk_at dksX1_meet_3 0 rfl rfl)
theorem dX1_meet_73 : decode cX1_meet 73 = .ok (.ireturn, 1) := dk_172 (dk_at dksX1_meet_3 1 rfl rfl)
abbrev cX1_bare : ByteArray := prog_1_method_66_code
def yX1_bare : MethodName := ⟨RX1, "bare", "(I)I"⟩
def dkwX1_bare_2 : List UInt8 := [120, 128, 61, 132, 3, 1, 167, 255, 224, 28, 172]
abbrev dktX1_bare_2 : List UInt8 := dkwX1_bare_2 ++ []
def dkwX1_bare_1 : List UInt8 := [180, 0, 31, 182, 0, 101, 162, 0, 27, 42, 180, 0, 44, 180, 0, 105, 29, 46, 154, 0, 9, 28, 4, 29]
abbrev dktX1_bare_1 : List UInt8 := dkwX1_bare_1 ++ dktX1_bare_2
def dkwX1_bare_0 : List UInt8 := [27, 3, 16, 60, 184, 0, 144, 184, 0, 74, 42, 27, 182, 0, 228, 87, 3, 61, 3, 62, 29, 42]
abbrev dktX1_bare_0 : List UInt8 := dkwX1_bare_0 ++ dktX1_bare_1
theorem dksX1_bare_0 : cX1_bare.data.toList.drop 0 = dktX1_bare_0 := by decide +kernel
theorem dksX1_bare_1 : cX1_bare.data.toList.drop 22 = dktX1_bare_1 := dk_seg dksX1_bare_0 22 rfl rfl
theorem dksX1_bare_2 : cX1_bare.data.toList.drop 46 = dktX1_bare_2 := dk_seg dksX1_bare_1 24 rfl rfl
theorem dX1_bare_0 : decode cX1_bare 0 = .ok (.iload_n 1, 1) := dk_27 (dk_at dksX1_bare_0 0 rfl rfl)
theorem dX1_bare_1 : decode cX1_bare 1 = .ok (.iconst 0, 1) := dk_3 (dk_at dksX1_bare_0 1 rfl rfl)
theorem dX1_bare_2 : decode cX1_bare 2 = .ok (.bipush 60, 2) := dk_16 60 (dk_at dksX1_bare_0 2 rfl rfl)
theorem dX1_bare_4 : decode cX1_bare 4 = .ok (.invokestatic 144, 3) := dk_184 0 144 (dk_at dksX1_bare_0 4 rfl rfl)
theorem dX1_bare_7 : decode cX1_bare 7 = .ok (.invokestatic 74, 3) := dk_184 0 74 (dk_at dksX1_bare_0 7 rfl rfl)
theorem dX1_bare_10 : decode cX1_bare 10 = .ok (.aload_n 0, 1) := dk_42 (dk_at dksX1_bare_0 10 rfl rfl)
theorem dX1_bare_11 : decode cX1_bare 11 = .ok (.iload_n 1, 1) := dk_27 (dk_at dksX1_bare_0 11 rfl rfl)
theorem dX1_bare_12 : decode cX1_bare 12 = .ok (.invokevirtual 228, 3) := dk_182 0 228 (dk_at dksX1_bare_0 12 rfl rfl)
theorem dX1_bare_15 : decode cX1_bare 15 = .ok (.pop, 1) := dk_87 (dk_at dksX1_bare_0 15 rfl rfl)
theorem dX1_bare_16 : decode cX1_bare 16 = .ok (.iconst 0, 1) := dk_3 (dk_at dksX1_bare_0 16 rfl rfl)
theorem dX1_bare_17 : decode cX1_bare 17 = .ok (.istore_n 2, 1) := dk_61 (dk_at dksX1_bare_0 17 rfl rfl)
theorem dX1_bare_18 : decode cX1_bare 18 = .ok (.iconst 0, 1) := dk_3 (dk_at dksX1_bare_0 18 rfl rfl)
theorem dX1_bare_19 : decode cX1_bare 19 = .ok (.istore_n 3, 1) := dk_62 (dk_at dksX1_bare_0 19 rfl rfl)
theorem dX1_bare_20 : decode cX1_bare 20 = .ok (.iload_n 3, 1) := dk_29 (dk_at dksX1_bare_0 20 rfl rfl)
theorem dX1_bare_21 : decode cX1_bare 21 = .ok (.aload_n 0, 1) := dk_42 (dk_at dksX1_bare_0 21 rfl rfl)
theorem dX1_bare_22 : decode cX1_bare 22 = .ok (.getfield 31, 3) := dk_180 0 31 (dk_at dksX1_bare_1 0 rfl rfl)
theorem dX1_bare_25 : decode cX1_bare 25 = .ok (.invokevirtual 101, 3) := dk_182 0 101 (dk_at dksX1_bare_1 3 rfl rfl)
theorem dX1_bare_28 : decode cX1_bare 28 = .ok (.if_icmp .ge 27, 3) := dk_162 0 27 (dk_at dksX1_bare_1 6 rfl rfl)
theorem dX1_bare_31 : decode cX1_bare 31 = .ok (.aload_n 0, 1) := dk_42 (dk_at dksX1_bare_1 9 rfl rfl)
theorem dX1_bare_32 : decode cX1_bare 32 = .ok (.getfield 44, 3) := dk_180 0 44 (dk_at dksX1_bare_1 10 rfl rfl)
theorem dX1_bare_35 : decode cX1_bare 35 = .ok (.getfield 105, 3) := dk_180 0 105 (dk_at dksX1_bare_1 13 rfl rfl)
theorem dX1_bare_38 : decode cX1_bare 38 = .ok (.iload_n 3, 1) := dk_29 (dk_at dksX1_bare_1 16 rfl rfl)
theorem dX1_bare_39 : decode cX1_bare 39 = .ok (.iaload, 1) := dk_46 (dk_at dksX1_bare_1 17 rfl rfl)
theorem dX1_bare_40 : decode cX1_bare 40 = .ok (.ifCond .ne 9, 3) := dk_154 0 9 (dk_at dksX1_bare_1 18 rfl rfl)
theorem dX1_bare_43 : decode cX1_bare 43 = .ok (.iload_n 2, 1) := dk_28 (dk_at dksX1_bare_1 21 rfl rfl)
theorem dX1_bare_44 : decode cX1_bare 44 = .ok (.iconst 1, 1) := dk_4 (dk_at dksX1_bare_1 22 rfl rfl)
theorem dX1_bare_45 : decode cX1_bare 45 = .ok (.iload_n 3, 1) := dk_29 (dk_at dksX1_bare_1 23 rfl rfl)
theorem dX1_bare_46 : decode cX1_bare 46 = .ok (.ishl, 1) := dk_120 (dk_at dksX1_bare_2 0 rfl rfl)
theorem dX1_bare_47 : decode cX1_bare 47 = .ok (.ior, 1) := dk_128 (dk_at dksX1_bare_2 1 rfl rfl)
theorem dX1_bare_48 : decode cX1_bare 48 = .ok (.istore_n 2, 1) := dk_61 (dk_at dksX1_bare_2 2 rfl rfl)
theorem dX1_bare_49 : decode cX1_bare 49 = .ok (.iinc 3 1, 3) := dk_132 3 1 (dk_at dksX1_bare_2 3 rfl rfl)
theorem dX1_bare_52 : decode cX1_bare 52 = .ok (.goto (-32), 3) := dk_167 255 224 (dk_at dksX1_bare_2 6 rfl rfl)
theorem dX1_bare_55 : decode cX1_bare 55 = .ok (.iload_n 2, 1) := dk_28 (dk_at dksX1_bare_2 9 rfl rfl)
theorem dX1_bare_56 : decode cX1_bare 56 = .ok (.ireturn, 1) := dk_172 (dk_at dksX1_bare_2 10 rfl rfl)
abbrev cX1_load : ByteArray := prog_1_method_67_code
def yX1_load : MethodName := ⟨RX1, "load", "(I)I"⟩
def dkwX1_load_3 : List UInt8 := [154, 0, 20, 42, 180, 0, 40, 180, 0, 155, 3, 46, 27, 161, 0, 7, 4, 167, 0, 4, 28, 172]
abbrev dktX1_load_3 : List UInt8 := dkwX1_load_3 ++ []
def dkwX1_load_2 : List UInt8 := [180, 0, 31, 29, 182, 1, 24, 46, 27, 162, 0, 6, 132, 2, 1, 132, 3, 1, 167, 255, 206, 28]
abbrev dktX1_load_2 : List UInt8 := dkwX1_load_2 ++ dktX1_load_3
def dkwX1_load_1 : List UInt8 := [162, 0, 45, 42, 180, 0, 40, 180, 0, 155, 29, 46, 27, 161, 0, 26, 42, 180, 0, 40, 180, 0, 155, 42]
abbrev dktX1_load_1 : List UInt8 := dkwX1_load_1 ++ dktX1_load_2
def dkwX1_load_0 : List UInt8 := [27, 3, 16, 99, 184, 0, 144, 184, 0, 74, 3, 61, 3, 62, 29, 42, 180, 0, 31, 180, 0, 115]
abbrev dktX1_load_0 : List UInt8 := dkwX1_load_0 ++ dktX1_load_1
theorem dksX1_load_0 : cX1_load.data.toList.drop 0 = dktX1_load_0 := by decide +kernel
theorem dksX1_load_1 : cX1_load.data.toList.drop 22 = dktX1_load_1 := dk_seg dksX1_load_0 22 rfl rfl
theorem dksX1_load_2 : cX1_load.data.toList.drop 46 = dktX1_load_2 := dk_seg dksX1_load_1 24 rfl rfl
theorem dksX1_load_3 : cX1_load.data.toList.drop 68 = dktX1_load_3 := dk_seg dksX1_load_2 22 rfl rfl
theorem dX1_load_0 : decode cX1_load 0 = .ok (.iload_n 1, 1) := dk_27 (dk_at dksX1_load_0 0 rfl rfl)
theorem dX1_load_1 : decode cX1_load 1 = .ok (.iconst 0, 1) := dk_3 (dk_at dksX1_load_0 1 rfl rfl)
theorem dX1_load_2 : decode cX1_load 2 = .ok (.bipush 99, 2) := dk_16 99 (dk_at dksX1_load_0 2 rfl rfl)
theorem dX1_load_4 : decode cX1_load 4 = .ok (.invokestatic 144, 3) := dk_184 0 144 (dk_at dksX1_load_0 4 rfl rfl)
theorem dX1_load_7 : decode cX1_load 7 = .ok (.invokestatic 74, 3) := dk_184 0 74 (dk_at dksX1_load_0 7 rfl rfl)
theorem dX1_load_10 : decode cX1_load 10 = .ok (.iconst 0, 1) := dk_3 (dk_at dksX1_load_0 10 rfl rfl)
theorem dX1_load_11 : decode cX1_load 11 = .ok (.istore_n 2, 1) := dk_61 (dk_at dksX1_load_0 11 rfl rfl)
theorem dX1_load_12 : decode cX1_load 12 = .ok (.iconst 0, 1) := dk_3 (dk_at dksX1_load_0 12 rfl rfl)
theorem dX1_load_13 : decode cX1_load 13 = .ok (.istore_n 3, 1) := dk_62 (dk_at dksX1_load_0 13 rfl rfl)
theorem dX1_load_14 : decode cX1_load 14 = .ok (.iload_n 3, 1) := dk_29 (dk_at dksX1_load_0 14 rfl rfl)
theorem dX1_load_15 : decode cX1_load 15 = .ok (.aload_n 0, 1) := dk_42 (dk_at dksX1_load_0 15 rfl rfl)
theorem dX1_load_16 : decode cX1_load 16 = .ok (.getfield 31, 3) := dk_180 0 31 (dk_at dksX1_load_0 16 rfl rfl)
theorem dX1_load_19 : decode cX1_load 19 = .ok (.getfield 115, 3) := dk_180 0 115 (dk_at dksX1_load_0 19 rfl rfl)
theorem dX1_load_22 : decode cX1_load 22 = .ok (.if_icmp .ge 45, 3) := dk_162 0 45 (dk_at dksX1_load_1 0 rfl rfl)
theorem dX1_load_25 : decode cX1_load 25 = .ok (.aload_n 0, 1) := dk_42 (dk_at dksX1_load_1 3 rfl rfl)
theorem dX1_load_26 : decode cX1_load 26 = .ok (.getfield 40, 3) := dk_180 0 40 (dk_at dksX1_load_1 4 rfl rfl)
theorem dX1_load_29 : decode cX1_load 29 = .ok (.getfield 155, 3) := dk_180 0 155 (dk_at dksX1_load_1 7 rfl rfl)
theorem dX1_load_32 : decode cX1_load 32 = .ok (.iload_n 3, 1) := dk_29 (dk_at dksX1_load_1 10 rfl rfl)
theorem dX1_load_33 : decode cX1_load 33 = .ok (.iaload, 1) := dk_46 (dk_at dksX1_load_1 11 rfl rfl)
theorem dX1_load_34 : decode cX1_load 34 = .ok (.iload_n 1, 1) := dk_27 (dk_at dksX1_load_1 12 rfl rfl)
theorem dX1_load_35 : decode cX1_load 35 = .ok (.if_icmp .lt 26, 3) := dk_161 0 26 (dk_at dksX1_load_1 13 rfl rfl)
theorem dX1_load_38 : decode cX1_load 38 = .ok (.aload_n 0, 1) := dk_42 (dk_at dksX1_load_1 16 rfl rfl)
theorem dX1_load_39 : decode cX1_load 39 = .ok (.getfield 40, 3) := dk_180 0 40 (dk_at dksX1_load_1 17 rfl rfl)
theorem dX1_load_42 : decode cX1_load 42 = .ok (.getfield 155, 3) := dk_180 0 155 (dk_at dksX1_load_1 20 rfl rfl)
theorem dX1_load_45 : decode cX1_load 45 = .ok (.aload_n 0, 1) := dk_42 (dk_at dksX1_load_1 23 rfl rfl)
theorem dX1_load_46 : decode cX1_load 46 = .ok (.getfield 31, 3) := dk_180 0 31 (dk_at dksX1_load_2 0 rfl rfl)
theorem dX1_load_49 : decode cX1_load 49 = .ok (.iload_n 3, 1) := dk_29 (dk_at dksX1_load_2 3 rfl rfl)
theorem dX1_load_50 : decode cX1_load 50 = .ok (.invokevirtual 280, 3) := dk_182 1 24 (dk_at dksX1_load_2 4 rfl rfl)
theorem dX1_load_53 : decode cX1_load 53 = .ok (.iaload, 1) := dk_46 (dk_at dksX1_load_2 7 rfl rfl)
theorem dX1_load_54 : decode cX1_load 54 = .ok (.iload_n 1, 1) := dk_27 (dk_at dksX1_load_2 8 rfl rfl)
theorem dX1_load_55 : decode cX1_load 55 = .ok (.if_icmp .ge 6, 3) := dk_162 0 6 (dk_at dksX1_load_2 9 rfl rfl)
theorem dX1_load_58 : decode cX1_load 58 = .ok (.iinc 2 1, 3) := dk_132 2 1 (dk_at dksX1_load_2 12 rfl rfl)
theorem dX1_load_61 : decode cX1_load 61 = .ok (.iinc 3 1, 3) := dk_132 3 1 (dk_at dksX1_load_2 15 rfl rfl)
theorem dX1_load_64 : decode cX1_load 64 = .ok (.goto (-50), 3) := dk_167 255 206 (dk_at dksX1_load_2 18 rfl rfl)
theorem dX1_load_67 : decode cX1_load 67 = .ok (.iload_n 2, 1) := dk_28 (dk_at dksX1_load_2 21 rfl rfl)
theorem dX1_load_68 : decode cX1_load 68 = .ok (.ifCond .ne 20, 3) := dk_154 0 20 (dk_at dksX1_load_3 0 rfl rfl)
theorem dX1_load_71 : decode cX1_load 71 = .ok (.aload_n 0, 1) := dk_42 (dk_at dksX1_load_3 3 rfl rfl)
theorem dX1_load_72 : decode cX1_load 72 = .ok (.getfield 40, 3) := dk_180 0 40 (dk_at dksX1_load_3 4 rfl rfl)
theorem dX1_load_75 : decode cX1_load 75 = .ok (.getfield 155, 3) := dk_180 0 155 (dk_at dksX1_load_3 7 rfl rfl)
theorem dX1_load_78 : decode cX1_load 78 = .ok (.iconst 0, 1) := dk_3 (dk_at dksX1_load_3 10 rfl rfl)
theorem dX1_load_79 : decode cX1_load 79 = .ok (.iaload, 1) := dk_46 (dk_at dksX1_load_3 11 rfl rfl)
theorem dX1_load_80 : decode cX1_load 80 = .ok (.iload_n 1, 1) := dk_27 (dk_at dksX1_load_3 12 rfl rfl)
theorem dX1_load_81 : decode cX1_load 81 = .ok (.if_icmp .lt 7, 3) := dk_161 0 7 (dk_at dksX1_load_3 13 rfl rfl)
theorem dX1_load_84 : decode cX1_load 84 = .ok (.iconst 1, 1) := dk_4 (dk_at dksX1_load_3 16 rfl rfl)
theorem dX1_load_85 : decode cX1_load 85 = .ok (.goto 4, 3) := dk_167 0 4 (dk_at dksX1_load_3 17 rfl rfl)
theorem dX1_load_88 : decode cX1_load 88 = .ok (.iload_n 2, 1) := dk_28 (dk_at dksX1_load_3 20 rfl rfl)
theorem dX1_load_89 : decode cX1_load 89 = .ok (.ireturn, 1) := dk_172 (dk_at dksX1_load_3 21 rfl rfl)
