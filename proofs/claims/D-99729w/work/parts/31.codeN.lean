set_option maxRecDepth 100000
abbrev cJ18_getChars : ByteArray := prog_22_method_12_code
def yJ18_getChars : MethodName := ⟨RJ18, "getChars", "(II[B)I"⟩
def dkwJ18_getChars_5 : List UInt8 := [16, 45, 84, 21, 5, 172]
abbrev dktJ18_getChars_5 : List UInt8 := dkwJ18_getChars_5 ++ []
def dkwJ18_getChars_4 : List UInt8 := [132, 5, 255, 21, 5, 178, 0, 87, 26, 116, 51, 84, 21, 6, 153, 0, 12, 44, 132, 5, 255, 21, 5]
abbrev dktJ18_getChars_4 : List UInt8 := dkwJ18_getChars_4 ++ dktJ18_getChars_5
def dkwJ18_getChars_3 : List UInt8 := [167, 255, 209, 44, 132, 5, 255, 21, 5, 178, 0, 83, 26, 116, 51, 84, 26, 16, 247, 162, 0, 16, 44]
abbrev dktJ18_getChars_3 : List UInt8 := dkwJ18_getChars_3 ++ dktJ18_getChars_4
def dkwJ18_getChars_2 : List UInt8 := [21, 5, 178, 0, 83, 21, 4, 51, 84, 44, 132, 5, 255, 21, 5, 178, 0, 87, 21, 4, 51, 84]
abbrev dktJ18_getChars_2 : List UInt8 := dkwJ18_getChars_2 ++ dktJ18_getChars_3
def dkwJ18_getChars_1 : List UInt8 := [16, 156, 163, 0, 47, 26, 16, 100, 108, 62, 29, 16, 100, 104, 26, 100, 54, 4, 29, 59, 44, 132, 5, 255]
abbrev dktJ18_getChars_1 : List UInt8 := dkwJ18_getChars_1 ++ dktJ18_getChars_2
def dkwJ18_getChars_0 : List UInt8 := [27, 54, 5, 26, 156, 0, 7, 4, 167, 0, 4, 3, 54, 6, 21, 6, 154, 0, 6, 26, 116, 59, 26]
abbrev dktJ18_getChars_0 : List UInt8 := dkwJ18_getChars_0 ++ dktJ18_getChars_1
theorem dksJ18_getChars_0 : cJ18_getChars.data.toList.drop 0 = dktJ18_getChars_0 := by decide +kernel
theorem dksJ18_getChars_1 : cJ18_getChars.data.toList.drop 23 = dktJ18_getChars_1 := dk_seg dksJ18_getChars_0 23 rfl rfl
theorem dksJ18_getChars_2 : cJ18_getChars.data.toList.drop 47 = dktJ18_getChars_2 := dk_seg dksJ18_getChars_1 24 rfl rfl
theorem dksJ18_getChars_3 : cJ18_getChars.data.toList.drop 69 = dktJ18_getChars_3 := dk_seg dksJ18_getChars_2 22 rfl rfl
theorem dksJ18_getChars_4 : cJ18_getChars.data.toList.drop 92 = dktJ18_getChars_4 := dk_seg dksJ18_getChars_3 23 rfl rfl
theorem dksJ18_getChars_5 : cJ18_getChars.data.toList.drop 115 = dktJ18_getChars_5 := dk_seg dksJ18_getChars_4 23 rfl rfl
theorem dJ18_getChars_0 : decode cJ18_getChars 0 = .ok (.iload_n 1, 1) := dk_27 (dk_at dksJ18_getChars_0 0 rfl rfl)
theorem dJ18_getChars_1 : decode cJ18_getChars 1 = .ok (.istore 5, 2) := dk_54 5 (dk_at dksJ18_getChars_0 1 rfl rfl)
theorem dJ18_getChars_3 : decode cJ18_getChars 3 = .ok (.iload_n 0, 1) := dk_26 (dk_at dksJ18_getChars_0 3 rfl rfl)
theorem dJ18_getChars_4 : decode cJ18_getChars 4 = .ok (.ifCond .ge 7, 3) := dk_156 0 7 (dk_at dksJ18_getChars_0 4 rfl rfl)
theorem dJ18_getChars_7 : decode cJ18_getChars 7 = .ok (.iconst 1, 1) := dk_4 (dk_at dksJ18_getChars_0 7 rfl rfl)
theorem dJ18_getChars_8 : decode cJ18_getChars 8 = .ok (.goto 4, 3) := dk_167 0 4 (dk_at dksJ18_getChars_0 8 rfl rfl)
theorem dJ18_getChars_11 : decode cJ18_getChars 11 = .ok (.iconst 0, 1) := dk_3 (dk_at dksJ18_getChars_0 11 rfl rfl)
theorem dJ18_getChars_12 : decode cJ18_getChars 12 = .ok (.istore 6, 2) := dk_54 6 (dk_at dksJ18_getChars_0 12 rfl rfl)
theorem dJ18_getChars_14 : decode cJ18_getChars 14 = .ok (.iload 6, 2) := dk_21 6 (dk_at dksJ18_getChars_0 14 rfl rfl)
theorem dJ18_getChars_16 : decode cJ18_getChars 16 = .ok (.ifCond .ne 6, 3) := dk_154 0 6 (dk_at dksJ18_getChars_0 16 rfl rfl)
theorem dJ18_getChars_19 : decode cJ18_getChars 19 = .ok (.iload_n 0, 1) := dk_26 (dk_at dksJ18_getChars_0 19 rfl rfl)
theorem dJ18_getChars_20 : decode cJ18_getChars 20 = .ok (.ineg, 1) := dk_116 (dk_at dksJ18_getChars_0 20 rfl rfl)
theorem dJ18_getChars_21 : decode cJ18_getChars 21 = .ok (.istore_n 0, 1) := dk_59 (dk_at dksJ18_getChars_0 21 rfl rfl)
theorem dJ18_getChars_22 : decode cJ18_getChars 22 = .ok (.iload_n 0, 1) := dk_26 (dk_at dksJ18_getChars_0 22 rfl rfl)
theorem dJ18_getChars_23 : decode cJ18_getChars 23 = .ok (.bipush (-100), 2) := dk_16 156 (dk_at dksJ18_getChars_1 0 rfl rfl)
theorem dJ18_getChars_25 : decode cJ18_getChars 25 = .ok (.if_icmp .gt 47, 3) := dk_163 0 47 (dk_at dksJ18_getChars_1 2 rfl rfl)
theorem dJ18_getChars_28 : decode cJ18_getChars 28 = .ok (.iload_n 0, 1) := dk_26 (dk_at dksJ18_getChars_1 5 rfl rfl)
theorem dJ18_getChars_29 : decode cJ18_getChars 29 = .ok (.bipush 100, 2) := dk_16 100 (dk_at dksJ18_getChars_1 6 rfl rfl)
theorem dJ18_getChars_31 : decode cJ18_getChars 31 = .ok (.idiv, 1) := dk_108 (dk_at dksJ18_getChars_1 8 rfl rfl)
theorem dJ18_getChars_32 : decode cJ18_getChars 32 = .ok (.istore_n 3, 1) := dk_62 (dk_at dksJ18_getChars_1 9 rfl rfl)
theorem dJ18_getChars_33 : decode cJ18_getChars 33 = .ok (.iload_n 3, 1) := dk_29 (dk_at dksJ18_getChars_1 10 rfl rfl)
theorem dJ18_getChars_34 : decode cJ18_getChars 34 = .ok (.bipush 100, 2) := dk_16 100 (dk_at dksJ18_getChars_1 11 rfl rfl)
theorem dJ18_getChars_36 : decode cJ18_getChars 36 = .ok (.imul, 1) := dk_104 (dk_at dksJ18_getChars_1 13 rfl rfl)
theorem dJ18_getChars_37 : decode cJ18_getChars 37 = .ok (.iload_n 0, 1) := dk_26 (dk_at dksJ18_getChars_1 14 rfl rfl)
theorem dJ18_getChars_38 : decode cJ18_getChars 38 = .ok (.isub, 1) := dk_100 (dk_at dksJ18_getChars_1 15 rfl rfl)
theorem dJ18_getChars_39 : decode cJ18_getChars 39 = .ok (.istore 4, 2) := dk_54 4 (dk_at dksJ18_getChars_1 16 rfl rfl)
theorem dJ18_getChars_41 : decode cJ18_getChars 41 = .ok (.iload_n 3, 1) := dk_29 (dk_at dksJ18_getChars_1 18 rfl rfl)
theorem dJ18_getChars_42 : decode cJ18_getChars 42 = .ok (.istore_n 0, 1) := dk_59 (dk_at dksJ18_getChars_1 19 rfl rfl)
theorem dJ18_getChars_43 : decode cJ18_getChars 43 = .ok (.aload_n 2, 1) := dk_44 (dk_at dksJ18_getChars_1 20 rfl rfl)
theorem dJ18_getChars_44 : decode cJ18_getChars 44 = .ok (.iinc 5 (-1), 3) := dk_132 5 255 (dk_at dksJ18_getChars_1 21 rfl rfl)
theorem dJ18_getChars_47 : decode cJ18_getChars 47 = .ok (.iload 5, 2) := dk_21 5 (dk_at dksJ18_getChars_2 0 rfl rfl)
theorem dJ18_getChars_49 : decode cJ18_getChars 49 = .ok (.getstatic 83, 3) := dk_178 0 83 (dk_at dksJ18_getChars_2 2 rfl rfl)
theorem dJ18_getChars_52 : decode cJ18_getChars 52 = .ok (.iload 4, 2) := dk_21 4 (dk_at dksJ18_getChars_2 5 rfl rfl)
theorem dJ18_getChars_54 : decode cJ18_getChars 54 = .ok (.baload, 1) := dk_51 (dk_at dksJ18_getChars_2 7 rfl rfl)
theorem dJ18_getChars_55 : decode cJ18_getChars 55 = .ok (.bastore, 1) := dk_84 (dk_at dksJ18_getChars_2 8 rfl rfl)
theorem dJ18_getChars_56 : decode cJ18_getChars 56 = .ok (.aload_n 2, 1) := dk_44 (dk_at dksJ18_getChars_2 9 rfl rfl)
theorem dJ18_getChars_57 : decode cJ18_getChars 57 = .ok (.iinc 5 (-1), 3) := dk_132 5 255 (dk_at dksJ18_getChars_2 10 rfl rfl)
theorem dJ18_getChars_60 : decode cJ18_getChars 60 = .ok (.iload 5, 2) := dk_21 5 (dk_at dksJ18_getChars_2 13 rfl rfl)
theorem dJ18_getChars_62 : decode cJ18_getChars 62 = .ok (.getstatic 87, 3) := dk_178 0 87 (dk_at dksJ18_getChars_2 15 rfl rfl)
theorem dJ18_getChars_65 : decode cJ18_getChars 65 = .ok (.iload 4, 2) := dk_21 4 (dk_at dksJ18_getChars_2 18 rfl rfl)
theorem dJ18_getChars_67 : decode cJ18_getChars 67 = .ok (.baload, 1) := dk_51 (dk_at dksJ18_getChars_2 20 rfl rfl)
theorem dJ18_getChars_68 : decode cJ18_getChars 68 = .ok (.bastore, 1) := dk_84 (dk_at dksJ18_getChars_2 21 rfl rfl)
theorem dJ18_getChars_69 : decode cJ18_getChars 69 = .ok (.goto (-47), 3) := dk_167 255 209 (dk_at dksJ18_getChars_3 0 rfl rfl)
theorem dJ18_getChars_72 : decode cJ18_getChars 72 = .ok (.aload_n 2, 1) := dk_44 (dk_at dksJ18_getChars_3 3 rfl rfl)
theorem dJ18_getChars_73 : decode cJ18_getChars 73 = .ok (.iinc 5 (-1), 3) := dk_132 5 255 (dk_at dksJ18_getChars_3 4 rfl rfl)
theorem dJ18_getChars_76 : decode cJ18_getChars 76 = .ok (.iload 5, 2) := dk_21 5 (dk_at dksJ18_getChars_3 7 rfl rfl)
theorem dJ18_getChars_78 : decode cJ18_getChars 78 = .ok (.getstatic 83, 3) := dk_178 0 83 (dk_at dksJ18_getChars_3 9 rfl rfl)
theorem dJ18_getChars_81 : decode cJ18_getChars 81 = .ok (.iload_n 0, 1) := dk_26 (dk_at dksJ18_getChars_3 12 rfl rfl)
theorem dJ18_getChars_82 : decode cJ18_getChars 82 = .ok (.ineg, 1) := dk_116 (dk_at dksJ18_getChars_3 13 rfl rfl)
theorem dJ18_getChars_83 : decode cJ18_getChars 83 = .ok (.baload, 1) := dk_51 (dk_at dksJ18_getChars_3 14 rfl rfl)
theorem dJ18_getChars_84 : decode cJ18_getChars 84 = .ok (.bastore, 1) := dk_84 (dk_at dksJ18_getChars_3 15 rfl rfl)
theorem dJ18_getChars_85 : decode cJ18_getChars 85 = .ok (.iload_n 0, 1) := dk_26 (dk_at dksJ18_getChars_3 16 rfl rfl)
theorem dJ18_getChars_86 : decode cJ18_getChars 86 = .ok (.bipush (-9), 2) := dk_16 247 (dk_at dksJ18_getChars_3 17 rfl rfl)
theorem dJ18_getChars_88 : decode cJ18_getChars 88 = .ok (.if_icmp .ge 16, 3) := dk_162 0 16 (dk_at dksJ18_getChars_3 19 rfl rfl)
theorem dJ18_getChars_91 : decode cJ18_getChars 91 = .ok (.aload_n 2, 1) := dk_44 (dk_at dksJ18_getChars_3 22 rfl rfl)
theorem dJ18_getChars_92 : decode cJ18_getChars 92 = .ok (.iinc 5 (-1), 3) := dk_132 5 255 (dk_at dksJ18_getChars_4 0 rfl rfl)
theorem dJ18_getChars_95 : decode cJ18_getChars 95 = .ok (.iload 5, 2) := dk_21 5 (dk_at dksJ18_getChars_4 3 rfl rfl)
theorem dJ18_getChars_97 : decode cJ18_getChars 97 = .ok (.getstatic 87, 3) := dk_178 0 87 (dk_at dksJ18_getChars_4 5 rfl rfl)
theorem dJ18_getChars_100 : decode cJ18_getChars 100 = .ok (.iload_n 0, 1) := dk_26 (dk_at dksJ18_getChars_4 8 rfl rfl)
theorem dJ18_getChars_101 : decode cJ18_getChars 101 = .ok (.ineg, 1) := dk_116 (dk_at dksJ18_getChars_4 9 rfl rfl)
theorem dJ18_getChars_102 : decode cJ18_getChars 102 = .ok (.baload, 1) := dk_51 (dk_at dksJ18_getChars_4 10 rfl rfl)
theorem dJ18_getChars_103 : decode cJ18_getChars 103 = .ok (.bastore, 1) := dk_84 (dk_at dksJ18_getChars_4 11 rfl rfl)
theorem dJ18_getChars_104 : decode cJ18_getChars 104 = .ok (.iload 6, 2) := dk_21 6 (dk_at dksJ18_getChars_4 12 rfl rfl)
theorem dJ18_getChars_106 : decode cJ18_getChars 106 = .ok (.ifCond .eq 12, 3) := dk_153 0 12 (dk_at dksJ18_getChars_4 14 rfl rfl)
theorem dJ18_getChars_109 : decode cJ18_getChars 109 = .ok (.aload_n 2, 1) := dk_44 (dk_at dksJ18_getChars_4 17 rfl rfl)
theorem dJ18_getChars_110 : decode cJ18_getChars 110 = .ok (.iinc 5 (-1), 3) := dk_132 5 255 (dk_at dksJ18_getChars_4 18 rfl rfl)
theorem dJ18_getChars_113 : decode cJ18_getChars 113 = .ok (.iload 5, 2) := dk_21 5 (dk_at dksJ18_getChars_4 21 rfl rfl)
theorem dJ18_getChars_115 : decode cJ18_getChars 115 = .ok (.bipush 45, 2) := dk_16 45 (dk_at dksJ18_getChars_5 0 rfl rfl)
theorem dJ18_getChars_117 : decode cJ18_getChars 117 = .ok (.bastore, 1) := dk_84 (dk_at dksJ18_getChars_5 2 rfl rfl)
theorem dJ18_getChars_118 : decode cJ18_getChars 118 = .ok (.iload 5, 2) := dk_21 5 (dk_at dksJ18_getChars_5 3 rfl rfl)
theorem dJ18_getChars_120 : decode cJ18_getChars 120 = .ok (.ireturn, 1) := dk_172 (dk_at dksJ18_getChars_5 5 rfl rfl)
abbrev cJ8_init_3 : ByteArray := prog_29_method_151_code
def yJ8_init_3 : MethodName := ⟨RJ8, "<init>", "([BB)V"⟩
def dkwJ8_init_3_0 : List UInt8 := [42, 183, 0, 1, 42, 43, 181, 0, 9, 42, 28, 181, 0, 15, 177]
abbrev dktJ8_init_3_0 : List UInt8 := dkwJ8_init_3_0 ++ []
theorem dksJ8_init_3_0 : cJ8_init_3.data.toList.drop 0 = dktJ8_init_3_0 := by decide +kernel
theorem dJ8_init_3_0 : decode cJ8_init_3 0 = .ok (.aload_n 0, 1) := dk_42 (dk_at dksJ8_init_3_0 0 rfl rfl)
theorem dJ8_init_3_1 : decode cJ8_init_3 1 = .ok (.invokespecial 1, 3) := dk_183 0 1 (dk_at dksJ8_init_3_0 1 rfl rfl)
theorem dJ8_init_3_4 : decode cJ8_init_3 4 = .ok (.aload_n 0, 1) := dk_42 (dk_at dksJ8_init_3_0 4 rfl rfl)
theorem dJ8_init_3_5 : decode cJ8_init_3 5 = .ok (.aload_n 1, 1) := dk_43 (dk_at dksJ8_init_3_0 5 rfl rfl)
theorem dJ8_init_3_6 : decode cJ8_init_3 6 = .ok (.putfield 9, 3) := dk_181 0 9 (dk_at dksJ8_init_3_0 6 rfl rfl)
theorem dJ8_init_3_9 : decode cJ8_init_3 9 = .ok (.aload_n 0, 1) := dk_42 (dk_at dksJ8_init_3_0 9 rfl rfl)
theorem dJ8_init_3_10 : decode cJ8_init_3 10 = .ok (.iload_n 2, 1) := dk_28 (dk_at dksJ8_init_3_0 10 rfl rfl)
theorem dJ8_init_3_11 : decode cJ8_init_3 11 = .ok (.putfield 15, 3) := dk_181 0 15 (dk_at dksJ8_init_3_0 11 rfl rfl)
theorem dJ8_init_3_14 : decode cJ8_init_3 14 = .ok (.return_, 1) := dk_177 (dk_at dksJ8_init_3_0 14 rfl rfl)
abbrev cJ18_toString : ByteArray := prog_22_method_10_code
def yJ18_toString : MethodName := ⟨RJ18, "toString", "(I)Ljava/lang/String;"⟩
def dkwJ18_toString_2 : List UInt8 := [187, 0, 5, 89, 44, 4, 183, 0, 65, 176]
abbrev dktJ18_toString_2 : List UInt8 := dkwJ18_toString_2 ++ []
def dkwJ18_toString_1 : List UInt8 := [187, 0, 5, 89, 44, 3, 183, 0, 65, 176, 27, 5, 104, 188, 8, 77, 26, 27, 44, 184, 0, 79, 87]
abbrev dktJ18_toString_1 : List UInt8 := dkwJ18_toString_1 ++ dktJ18_toString_2
def dkwJ18_toString_0 : List UInt8 := [26, 184, 0, 72, 60, 178, 0, 13, 153, 0, 24, 27, 188, 8, 77, 26, 27, 44, 184, 0, 75, 87]
abbrev dktJ18_toString_0 : List UInt8 := dkwJ18_toString_0 ++ dktJ18_toString_1
theorem dksJ18_toString_0 : cJ18_toString.data.toList.drop 0 = dktJ18_toString_0 := by decide +kernel
theorem dksJ18_toString_1 : cJ18_toString.data.toList.drop 22 = dktJ18_toString_1 := dk_seg dksJ18_toString_0 22 rfl rfl
theorem dksJ18_toString_2 : cJ18_toString.data.toList.drop 45 = dktJ18_toString_2 := dk_seg dksJ18_toString_1 23 rfl rfl
theorem dJ18_toString_0 : decode cJ18_toString 0 = .ok (.iload_n 0, 1) := dk_26 (dk_at dksJ18_toString_0 0 rfl rfl)
theorem dJ18_toString_1 : decode cJ18_toString 1 = .ok (.invokestatic 72, 3) := dk_184 0 72 (dk_at dksJ18_toString_0 1 rfl rfl)
theorem dJ18_toString_4 : decode cJ18_toString 4 = .ok (.istore_n 1, 1) := dk_60 (dk_at dksJ18_toString_0 4 rfl rfl)
theorem dJ18_toString_5 : decode cJ18_toString 5 = .ok (.getstatic 13, 3) := dk_178 0 13 (dk_at dksJ18_toString_0 5 rfl rfl)
theorem dJ18_toString_8 : decode cJ18_toString 8 = .ok (.ifCond .eq 24, 3) := dk_153 0 24 (dk_at dksJ18_toString_0 8 rfl rfl)
theorem dJ18_toString_11 : decode cJ18_toString 11 = .ok (.iload_n 1, 1) := dk_27 (dk_at dksJ18_toString_0 11 rfl rfl)
theorem dJ18_toString_12 : decode cJ18_toString 12 = .ok (.newarray .byte, 2) := dk_188_8 (dk_at dksJ18_toString_0 12 rfl rfl)
theorem dJ18_toString_14 : decode cJ18_toString 14 = .ok (.astore_n 2, 1) := dk_77 (dk_at dksJ18_toString_0 14 rfl rfl)
theorem dJ18_toString_15 : decode cJ18_toString 15 = .ok (.iload_n 0, 1) := dk_26 (dk_at dksJ18_toString_0 15 rfl rfl)
theorem dJ18_toString_16 : decode cJ18_toString 16 = .ok (.iload_n 1, 1) := dk_27 (dk_at dksJ18_toString_0 16 rfl rfl)
theorem dJ18_toString_17 : decode cJ18_toString 17 = .ok (.aload_n 2, 1) := dk_44 (dk_at dksJ18_toString_0 17 rfl rfl)
theorem dJ18_toString_18 : decode cJ18_toString 18 = .ok (.invokestatic 75, 3) := dk_184 0 75 (dk_at dksJ18_toString_0 18 rfl rfl)
theorem dJ18_toString_21 : decode cJ18_toString 21 = .ok (.pop, 1) := dk_87 (dk_at dksJ18_toString_0 21 rfl rfl)
theorem dJ18_toString_22 : decode cJ18_toString 22 = .ok (.new 5, 3) := dk_187 0 5 (dk_at dksJ18_toString_1 0 rfl rfl)
theorem dJ18_toString_25 : decode cJ18_toString 25 = .ok (.dup, 1) := dk_89 (dk_at dksJ18_toString_1 3 rfl rfl)
theorem dJ18_toString_26 : decode cJ18_toString 26 = .ok (.aload_n 2, 1) := dk_44 (dk_at dksJ18_toString_1 4 rfl rfl)
theorem dJ18_toString_27 : decode cJ18_toString 27 = .ok (.iconst 0, 1) := dk_3 (dk_at dksJ18_toString_1 5 rfl rfl)
theorem dJ18_toString_28 : decode cJ18_toString 28 = .ok (.invokespecial 65, 3) := dk_183 0 65 (dk_at dksJ18_toString_1 6 rfl rfl)
theorem dJ18_toString_31 : decode cJ18_toString 31 = .ok (.areturn, 1) := dk_176 (dk_at dksJ18_toString_1 9 rfl rfl)
theorem dJ18_toString_32 : decode cJ18_toString 32 = .ok (.iload_n 1, 1) := dk_27 (dk_at dksJ18_toString_1 10 rfl rfl)
theorem dJ18_toString_33 : decode cJ18_toString 33 = .ok (.iconst 2, 1) := dk_5 (dk_at dksJ18_toString_1 11 rfl rfl)
theorem dJ18_toString_34 : decode cJ18_toString 34 = .ok (.imul, 1) := dk_104 (dk_at dksJ18_toString_1 12 rfl rfl)
theorem dJ18_toString_35 : decode cJ18_toString 35 = .ok (.newarray .byte, 2) := dk_188_8 (dk_at dksJ18_toString_1 13 rfl rfl)
theorem dJ18_toString_37 : decode cJ18_toString 37 = .ok (.astore_n 2, 1) := dk_77 (dk_at dksJ18_toString_1 15 rfl rfl)
theorem dJ18_toString_38 : decode cJ18_toString 38 = .ok (.iload_n 0, 1) := dk_26 (dk_at dksJ18_toString_1 16 rfl rfl)
theorem dJ18_toString_39 : decode cJ18_toString 39 = .ok (.iload_n 1, 1) := dk_27 (dk_at dksJ18_toString_1 17 rfl rfl)
theorem dJ18_toString_40 : decode cJ18_toString 40 = .ok (.aload_n 2, 1) := dk_44 (dk_at dksJ18_toString_1 18 rfl rfl)
theorem dJ18_toString_41 : decode cJ18_toString 41 = .ok (.invokestatic 79, 3) := dk_184 0 79 (dk_at dksJ18_toString_1 19 rfl rfl)
theorem dJ18_toString_44 : decode cJ18_toString 44 = .ok (.pop, 1) := dk_87 (dk_at dksJ18_toString_1 22 rfl rfl)
theorem dJ18_toString_45 : decode cJ18_toString 45 = .ok (.new 5, 3) := dk_187 0 5 (dk_at dksJ18_toString_2 0 rfl rfl)
theorem dJ18_toString_48 : decode cJ18_toString 48 = .ok (.dup, 1) := dk_89 (dk_at dksJ18_toString_2 3 rfl rfl)
theorem dJ18_toString_49 : decode cJ18_toString 49 = .ok (.aload_n 2, 1) := dk_44 (dk_at dksJ18_toString_2 4 rfl rfl)
theorem dJ18_toString_50 : decode cJ18_toString 50 = .ok (.iconst 1, 1) := dk_4 (dk_at dksJ18_toString_2 5 rfl rfl)
theorem dJ18_toString_51 : decode cJ18_toString 51 = .ok (.invokespecial 65, 3) := dk_183 0 65 (dk_at dksJ18_toString_2 6 rfl rfl)
theorem dJ18_toString_54 : decode cJ18_toString 54 = .ok (.areturn, 1) := dk_176 (dk_at dksJ18_toString_2 9 rfl rfl)
abbrev cX1_readings : ByteArray := prog_1_method_51_code
def yX1_readings : MethodName := ⟨RX1, "readings", "(II)I"⟩
def dkwX1_readings_8 : List UInt8 := [167, 0, 20, 25, 6, 3, 46, 18, 243, 161, 0, 7, 2, 167, 0, 7, 25, 6, 3, 46, 172]
abbrev dktX1_readings_8 : List UInt8 := dkwX1_readings_8 ++ []
def dkwX1_readings_7 : List UInt8 := [184, 0, 10, 79, 132, 8, 1, 167, 255, 158, 132, 7, 255, 167, 255, 137, 28, 154, 0, 10, 25, 5, 3, 46]
abbrev dktX1_readings_7 : List UInt8 := dkwX1_readings_7 ++ dktX1_readings_8
def dkwX1_readings_6 : List UInt8 := [79, 25, 6, 21, 7, 25, 6, 21, 7, 46, 4, 25, 6, 21, 7, 25, 9, 182, 1, 35, 96, 46, 96]
abbrev dktX1_readings_6 : List UInt8 := dkwX1_readings_6 ++ dktX1_readings_7
def dkwX1_readings_5 : List UInt8 := [154, 0, 6, 167, 0, 48, 25, 5, 21, 7, 92, 46, 25, 5, 21, 7, 25, 9, 182, 1, 35, 96, 46, 96]
abbrev dktX1_readings_5 : List UInt8 := dkwX1_readings_5 ++ dktX1_readings_6
def dkwX1_readings_4 : List UInt8 := [180, 0, 118, 21, 8, 185, 0, 180, 2, 0, 192, 1, 36, 58, 9, 45, 25, 9, 21, 7, 182, 1, 40]
abbrev dktX1_readings_4 : List UInt8 := dkwX1_readings_4 ++ dktX1_readings_5
def dkwX1_readings_3 : List UInt8 := [54, 8, 21, 8, 42, 180, 0, 31, 180, 0, 118, 185, 0, 121, 1, 0, 162, 0, 87, 42, 180, 0, 31]
abbrev dktX1_readings_3 : List UInt8 := dkwX1_readings_3 ++ dktX1_readings_4
def dkwX1_readings_2 : List UInt8 := [21, 4, 4, 79, 21, 4, 4, 100, 54, 7, 21, 7, 155, 0, 120, 25, 6, 21, 7, 18, 243, 79, 3]
abbrev dktX1_readings_2 : List UInt8 := dkwX1_readings_2 ++ dktX1_readings_3
def dkwX1_readings_1 : List UInt8 := [182, 1, 35, 54, 4, 21, 4, 4, 96, 188, 10, 58, 5, 21, 4, 4, 96, 188, 10, 58, 6, 25, 5]
abbrev dktX1_readings_1 : List UInt8 := dkwX1_readings_1 ++ dktX1_readings_2
def dkwX1_readings_0 : List UInt8 := [28, 4, 184, 0, 173, 27, 3, 19, 1, 30, 184, 0, 144, 184, 0, 74, 27, 184, 1, 31, 78, 45]
abbrev dktX1_readings_0 : List UInt8 := dkwX1_readings_0 ++ dktX1_readings_1
theorem dksX1_readings_0 : cX1_readings.data.toList.drop 0 = dktX1_readings_0 := by decide +kernel
theorem dksX1_readings_1 : cX1_readings.data.toList.drop 22 = dktX1_readings_1 := dk_seg dksX1_readings_0 22 rfl rfl
theorem dksX1_readings_2 : cX1_readings.data.toList.drop 45 = dktX1_readings_2 := dk_seg dksX1_readings_1 23 rfl rfl
theorem dksX1_readings_3 : cX1_readings.data.toList.drop 68 = dktX1_readings_3 := dk_seg dksX1_readings_2 23 rfl rfl
theorem dksX1_readings_4 : cX1_readings.data.toList.drop 91 = dktX1_readings_4 := dk_seg dksX1_readings_3 23 rfl rfl
theorem dksX1_readings_5 : cX1_readings.data.toList.drop 114 = dktX1_readings_5 := dk_seg dksX1_readings_4 23 rfl rfl
theorem dksX1_readings_6 : cX1_readings.data.toList.drop 138 = dktX1_readings_6 := dk_seg dksX1_readings_5 24 rfl rfl
theorem dksX1_readings_7 : cX1_readings.data.toList.drop 161 = dktX1_readings_7 := dk_seg dksX1_readings_6 23 rfl rfl
theorem dksX1_readings_8 : cX1_readings.data.toList.drop 185 = dktX1_readings_8 := dk_seg dksX1_readings_7 24 rfl rfl
theorem dX1_readings_0 : decode cX1_readings 0 = .ok (.iload_n 2, 1) := dk_28 (dk_at dksX1_readings_0 0 rfl rfl)
theorem dX1_readings_1 : decode cX1_readings 1 = .ok (.iconst 1, 1) := dk_4 (dk_at dksX1_readings_0 1 rfl rfl)
theorem dX1_readings_2 : decode cX1_readings 2 = .ok (.invokestatic 173, 3) := dk_184 0 173 (dk_at dksX1_readings_0 2 rfl rfl)
theorem dX1_readings_5 : decode cX1_readings 5 = .ok (.iload_n 1, 1) := dk_27 (dk_at dksX1_readings_0 5 rfl rfl)
theorem dX1_readings_6 : decode cX1_readings 6 = .ok (.iconst 0, 1) := dk_3 (dk_at dksX1_readings_0 6 rfl rfl)
theorem dX1_readings_7 : decode cX1_readings 7 = .ok (.ldc_w 286, 3) := dk_19 1 30 (dk_at dksX1_readings_0 7 rfl rfl)
theorem dX1_readings_10 : decode cX1_readings 10 = .ok (.invokestatic 144, 3) := dk_184 0 144 (dk_at dksX1_readings_0 10 rfl rfl)
theorem dX1_readings_13 : decode cX1_readings 13 = .ok (.invokestatic 74, 3) := dk_184 0 74 (dk_at dksX1_readings_0 13 rfl rfl)
theorem dX1_readings_16 : decode cX1_readings 16 = .ok (.iload_n 1, 1) := dk_27 (dk_at dksX1_readings_0 16 rfl rfl)
theorem dX1_readings_17 : decode cX1_readings 17 = .ok (.invokestatic 287, 3) := dk_184 1 31 (dk_at dksX1_readings_0 17 rfl rfl)
theorem dX1_readings_20 : decode cX1_readings 20 = .ok (.astore_n 3, 1) := dk_78 (dk_at dksX1_readings_0 20 rfl rfl)
theorem dX1_readings_21 : decode cX1_readings 21 = .ok (.aload_n 3, 1) := dk_45 (dk_at dksX1_readings_0 21 rfl rfl)
theorem dX1_readings_22 : decode cX1_readings 22 = .ok (.invokevirtual 291, 3) := dk_182 1 35 (dk_at dksX1_readings_1 0 rfl rfl)
theorem dX1_readings_25 : decode cX1_readings 25 = .ok (.istore 4, 2) := dk_54 4 (dk_at dksX1_readings_1 3 rfl rfl)
theorem dX1_readings_27 : decode cX1_readings 27 = .ok (.iload 4, 2) := dk_21 4 (dk_at dksX1_readings_1 5 rfl rfl)
theorem dX1_readings_29 : decode cX1_readings 29 = .ok (.iconst 1, 1) := dk_4 (dk_at dksX1_readings_1 7 rfl rfl)
theorem dX1_readings_30 : decode cX1_readings 30 = .ok (.iadd, 1) := dk_96 (dk_at dksX1_readings_1 8 rfl rfl)
theorem dX1_readings_31 : decode cX1_readings 31 = .ok (.newarray .int, 2) := dk_188_10 (dk_at dksX1_readings_1 9 rfl rfl)
theorem dX1_readings_33 : decode cX1_readings 33 = .ok (.astore 5, 2) := dk_58 5 (dk_at dksX1_readings_1 11 rfl rfl)
theorem dX1_readings_35 : decode cX1_readings 35 = .ok (.iload 4, 2) := dk_21 4 (dk_at dksX1_readings_1 13 rfl rfl)
theorem dX1_readings_37 : decode cX1_readings 37 = .ok (.iconst 1, 1) := dk_4 (dk_at dksX1_readings_1 15 rfl rfl)
theorem dX1_readings_38 : decode cX1_readings 38 = .ok (.iadd, 1) := dk_96 (dk_at dksX1_readings_1 16 rfl rfl)
theorem dX1_readings_39 : decode cX1_readings 39 = .ok (.newarray .int, 2) := dk_188_10 (dk_at dksX1_readings_1 17 rfl rfl)
theorem dX1_readings_41 : decode cX1_readings 41 = .ok (.astore 6, 2) := dk_58 6 (dk_at dksX1_readings_1 19 rfl rfl)
theorem dX1_readings_43 : decode cX1_readings 43 = .ok (.aload 5, 2) := dk_25 5 (dk_at dksX1_readings_1 21 rfl rfl)
theorem dX1_readings_45 : decode cX1_readings 45 = .ok (.iload 4, 2) := dk_21 4 (dk_at dksX1_readings_2 0 rfl rfl)
theorem dX1_readings_47 : decode cX1_readings 47 = .ok (.iconst 1, 1) := dk_4 (dk_at dksX1_readings_2 2 rfl rfl)
theorem dX1_readings_48 : decode cX1_readings 48 = .ok (.iastore, 1) := dk_79 (dk_at dksX1_readings_2 3 rfl rfl)
theorem dX1_readings_49 : decode cX1_readings 49 = .ok (.iload 4, 2) := dk_21 4 (dk_at dksX1_readings_2 4 rfl rfl)
theorem dX1_readings_51 : decode cX1_readings 51 = .ok (.iconst 1, 1) := dk_4 (dk_at dksX1_readings_2 6 rfl rfl)
theorem dX1_readings_52 : decode cX1_readings 52 = .ok (.isub, 1) := dk_100 (dk_at dksX1_readings_2 7 rfl rfl)
theorem dX1_readings_53 : decode cX1_readings 53 = .ok (.istore 7, 2) := dk_54 7 (dk_at dksX1_readings_2 8 rfl rfl)
theorem dX1_readings_55 : decode cX1_readings 55 = .ok (.iload 7, 2) := dk_21 7 (dk_at dksX1_readings_2 10 rfl rfl)
theorem dX1_readings_57 : decode cX1_readings 57 = .ok (.ifCond .lt 120, 3) := dk_155 0 120 (dk_at dksX1_readings_2 12 rfl rfl)
theorem dX1_readings_60 : decode cX1_readings 60 = .ok (.aload 6, 2) := dk_25 6 (dk_at dksX1_readings_2 15 rfl rfl)
theorem dX1_readings_62 : decode cX1_readings 62 = .ok (.iload 7, 2) := dk_21 7 (dk_at dksX1_readings_2 17 rfl rfl)
theorem dX1_readings_64 : decode cX1_readings 64 = .ok (.ldc 243, 2) := dk_18 243 (dk_at dksX1_readings_2 19 rfl rfl)
theorem dX1_readings_66 : decode cX1_readings 66 = .ok (.iastore, 1) := dk_79 (dk_at dksX1_readings_2 21 rfl rfl)
theorem dX1_readings_67 : decode cX1_readings 67 = .ok (.iconst 0, 1) := dk_3 (dk_at dksX1_readings_2 22 rfl rfl)
theorem dX1_readings_68 : decode cX1_readings 68 = .ok (.istore 8, 2) := dk_54 8 (dk_at dksX1_readings_3 0 rfl rfl)
theorem dX1_readings_70 : decode cX1_readings 70 = .ok (.iload 8, 2) := dk_21 8 (dk_at dksX1_readings_3 2 rfl rfl)
theorem dX1_readings_72 : decode cX1_readings 72 = .ok (.aload_n 0, 1) := dk_42 (dk_at dksX1_readings_3 4 rfl rfl)
theorem dX1_readings_73 : decode cX1_readings 73 = .ok (.getfield 31, 3) := dk_180 0 31 (dk_at dksX1_readings_3 5 rfl rfl)
theorem dX1_readings_76 : decode cX1_readings 76 = .ok (.getfield 118, 3) := dk_180 0 118 (dk_at dksX1_readings_3 8 rfl rfl)
theorem dX1_readings_79 : decode cX1_readings 79 = .ok (.invokeinterface 121 1, 5) := by decide +kernel
theorem dX1_readings_84 : decode cX1_readings 84 = .ok (.if_icmp .ge 87, 3) := dk_162 0 87 (dk_at dksX1_readings_3 16 rfl rfl)
theorem dX1_readings_87 : decode cX1_readings 87 = .ok (.aload_n 0, 1) := dk_42 (dk_at dksX1_readings_3 19 rfl rfl)
theorem dX1_readings_88 : decode cX1_readings 88 = .ok (.getfield 31, 3) := dk_180 0 31 (dk_at dksX1_readings_3 20 rfl rfl)
theorem dX1_readings_91 : decode cX1_readings 91 = .ok (.getfield 118, 3) := dk_180 0 118 (dk_at dksX1_readings_4 0 rfl rfl)
theorem dX1_readings_94 : decode cX1_readings 94 = .ok (.iload 8, 2) := dk_21 8 (dk_at dksX1_readings_4 3 rfl rfl)
theorem dX1_readings_96 : decode cX1_readings 96 = .ok (.invokeinterface 180 2, 5) := by decide +kernel
theorem dX1_readings_101 : decode cX1_readings 101 = .ok (.checkcast 292, 3) := dk_192 1 36 (dk_at dksX1_readings_4 10 rfl rfl)
theorem dX1_readings_104 : decode cX1_readings 104 = .ok (.astore 9, 2) := dk_58 9 (dk_at dksX1_readings_4 13 rfl rfl)
theorem dX1_readings_106 : decode cX1_readings 106 = .ok (.aload_n 3, 1) := dk_45 (dk_at dksX1_readings_4 15 rfl rfl)
theorem dX1_readings_107 : decode cX1_readings 107 = .ok (.aload 9, 2) := dk_25 9 (dk_at dksX1_readings_4 16 rfl rfl)
theorem dX1_readings_109 : decode cX1_readings 109 = .ok (.iload 7, 2) := dk_21 7 (dk_at dksX1_readings_4 18 rfl rfl)
theorem dX1_readings_111 : decode cX1_readings 111 = .ok (.invokevirtual 296, 3) := dk_182 1 40 (dk_at dksX1_readings_4 20 rfl rfl)
theorem dX1_readings_114 : decode cX1_readings 114 = .ok (.ifCond .ne 6, 3) := dk_154 0 6 (dk_at dksX1_readings_5 0 rfl rfl)
theorem dX1_readings_117 : decode cX1_readings 117 = .ok (.goto 48, 3) := dk_167 0 48 (dk_at dksX1_readings_5 3 rfl rfl)
theorem dX1_readings_120 : decode cX1_readings 120 = .ok (.aload 5, 2) := dk_25 5 (dk_at dksX1_readings_5 6 rfl rfl)
theorem dX1_readings_122 : decode cX1_readings 122 = .ok (.iload 7, 2) := dk_21 7 (dk_at dksX1_readings_5 8 rfl rfl)
theorem dX1_readings_124 : decode cX1_readings 124 = .ok (.dup2, 1) := dk_92 (dk_at dksX1_readings_5 10 rfl rfl)
theorem dX1_readings_125 : decode cX1_readings 125 = .ok (.iaload, 1) := dk_46 (dk_at dksX1_readings_5 11 rfl rfl)
theorem dX1_readings_126 : decode cX1_readings 126 = .ok (.aload 5, 2) := dk_25 5 (dk_at dksX1_readings_5 12 rfl rfl)
theorem dX1_readings_128 : decode cX1_readings 128 = .ok (.iload 7, 2) := dk_21 7 (dk_at dksX1_readings_5 14 rfl rfl)
theorem dX1_readings_130 : decode cX1_readings 130 = .ok (.aload 9, 2) := dk_25 9 (dk_at dksX1_readings_5 16 rfl rfl)
theorem dX1_readings_132 : decode cX1_readings 132 = .ok (.invokevirtual 291, 3) := dk_182 1 35 (dk_at dksX1_readings_5 18 rfl rfl)
theorem dX1_readings_135 : decode cX1_readings 135 = .ok (.iadd, 1) := dk_96 (dk_at dksX1_readings_5 21 rfl rfl)
theorem dX1_readings_136 : decode cX1_readings 136 = .ok (.iaload, 1) := dk_46 (dk_at dksX1_readings_5 22 rfl rfl)
theorem dX1_readings_137 : decode cX1_readings 137 = .ok (.iadd, 1) := dk_96 (dk_at dksX1_readings_5 23 rfl rfl)
theorem dX1_readings_138 : decode cX1_readings 138 = .ok (.iastore, 1) := dk_79 (dk_at dksX1_readings_6 0 rfl rfl)
theorem dX1_readings_139 : decode cX1_readings 139 = .ok (.aload 6, 2) := dk_25 6 (dk_at dksX1_readings_6 1 rfl rfl)
theorem dX1_readings_141 : decode cX1_readings 141 = .ok (.iload 7, 2) := dk_21 7 (dk_at dksX1_readings_6 3 rfl rfl)
theorem dX1_readings_143 : decode cX1_readings 143 = .ok (.aload 6, 2) := dk_25 6 (dk_at dksX1_readings_6 5 rfl rfl)
theorem dX1_readings_145 : decode cX1_readings 145 = .ok (.iload 7, 2) := dk_21 7 (dk_at dksX1_readings_6 7 rfl rfl)
theorem dX1_readings_147 : decode cX1_readings 147 = .ok (.iaload, 1) := dk_46 (dk_at dksX1_readings_6 9 rfl rfl)
theorem dX1_readings_148 : decode cX1_readings 148 = .ok (.iconst 1, 1) := dk_4 (dk_at dksX1_readings_6 10 rfl rfl)
theorem dX1_readings_149 : decode cX1_readings 149 = .ok (.aload 6, 2) := dk_25 6 (dk_at dksX1_readings_6 11 rfl rfl)
theorem dX1_readings_151 : decode cX1_readings 151 = .ok (.iload 7, 2) := dk_21 7 (dk_at dksX1_readings_6 13 rfl rfl)
theorem dX1_readings_153 : decode cX1_readings 153 = .ok (.aload 9, 2) := dk_25 9 (dk_at dksX1_readings_6 15 rfl rfl)
theorem dX1_readings_155 : decode cX1_readings 155 = .ok (.invokevirtual 291, 3) := dk_182 1 35 (dk_at dksX1_readings_6 17 rfl rfl)
theorem dX1_readings_158 : decode cX1_readings 158 = .ok (.iadd, 1) := dk_96 (dk_at dksX1_readings_6 20 rfl rfl)
theorem dX1_readings_159 : decode cX1_readings 159 = .ok (.iaload, 1) := dk_46 (dk_at dksX1_readings_6 21 rfl rfl)
theorem dX1_readings_160 : decode cX1_readings 160 = .ok (.iadd, 1) := dk_96 (dk_at dksX1_readings_6 22 rfl rfl)
theorem dX1_readings_161 : decode cX1_readings 161 = .ok (.invokestatic 10, 3) := dk_184 0 10 (dk_at dksX1_readings_7 0 rfl rfl)
theorem dX1_readings_164 : decode cX1_readings 164 = .ok (.iastore, 1) := dk_79 (dk_at dksX1_readings_7 3 rfl rfl)
theorem dX1_readings_165 : decode cX1_readings 165 = .ok (.iinc 8 1, 3) := dk_132 8 1 (dk_at dksX1_readings_7 4 rfl rfl)
theorem dX1_readings_168 : decode cX1_readings 168 = .ok (.goto (-98), 3) := dk_167 255 158 (dk_at dksX1_readings_7 7 rfl rfl)
theorem dX1_readings_171 : decode cX1_readings 171 = .ok (.iinc 7 (-1), 3) := dk_132 7 255 (dk_at dksX1_readings_7 10 rfl rfl)
theorem dX1_readings_174 : decode cX1_readings 174 = .ok (.goto (-119), 3) := dk_167 255 137 (dk_at dksX1_readings_7 13 rfl rfl)
theorem dX1_readings_177 : decode cX1_readings 177 = .ok (.iload_n 2, 1) := dk_28 (dk_at dksX1_readings_7 16 rfl rfl)
theorem dX1_readings_178 : decode cX1_readings 178 = .ok (.ifCond .ne 10, 3) := dk_154 0 10 (dk_at dksX1_readings_7 17 rfl rfl)
theorem dX1_readings_181 : decode cX1_readings 181 = .ok (.aload 5, 2) := dk_25 5 (dk_at dksX1_readings_7 20 rfl rfl)
theorem dX1_readings_183 : decode cX1_readings 183 = .ok (.iconst 0, 1) := dk_3 (dk_at dksX1_readings_7 22 rfl rfl)
theorem dX1_readings_184 : decode cX1_readings 184 = .ok (.iaload, 1) := dk_46 (dk_at dksX1_readings_7 23 rfl rfl)
theorem dX1_readings_185 : decode cX1_readings 185 = .ok (.goto 20, 3) := dk_167 0 20 (dk_at dksX1_readings_8 0 rfl rfl)
theorem dX1_readings_188 : decode cX1_readings 188 = .ok (.aload 6, 2) := dk_25 6 (dk_at dksX1_readings_8 3 rfl rfl)
theorem dX1_readings_190 : decode cX1_readings 190 = .ok (.iconst 0, 1) := dk_3 (dk_at dksX1_readings_8 5 rfl rfl)
theorem dX1_readings_191 : decode cX1_readings 191 = .ok (.iaload, 1) := dk_46 (dk_at dksX1_readings_8 6 rfl rfl)
theorem dX1_readings_192 : decode cX1_readings 192 = .ok (.ldc 243, 2) := dk_18 243 (dk_at dksX1_readings_8 7 rfl rfl)
theorem dX1_readings_194 : decode cX1_readings 194 = .ok (.if_icmp .lt 7, 3) := dk_161 0 7 (dk_at dksX1_readings_8 9 rfl rfl)
theorem dX1_readings_197 : decode cX1_readings 197 = .ok (.iconst (-1), 1) := dk_2 (dk_at dksX1_readings_8 12 rfl rfl)
theorem dX1_readings_198 : decode cX1_readings 198 = .ok (.goto 7, 3) := dk_167 0 7 (dk_at dksX1_readings_8 13 rfl rfl)
theorem dX1_readings_201 : decode cX1_readings 201 = .ok (.aload 6, 2) := dk_25 6 (dk_at dksX1_readings_8 16 rfl rfl)
theorem dX1_readings_203 : decode cX1_readings 203 = .ok (.iconst 0, 1) := dk_3 (dk_at dksX1_readings_8 18 rfl rfl)
theorem dX1_readings_204 : decode cX1_readings 204 = .ok (.iaload, 1) := dk_46 (dk_at dksX1_readings_8 19 rfl rfl)
theorem dX1_readings_205 : decode cX1_readings 205 = .ok (.ireturn, 1) := dk_172 (dk_at dksX1_readings_8 20 rfl rfl)
