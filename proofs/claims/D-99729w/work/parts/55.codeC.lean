set_option maxRecDepth 100000
abbrev cX1_init : ByteArray := prog_1_method_6_code
def yX1_init : MethodName := ⟨RX1, "<init>", "()V"⟩
def dkwX1_init_4 : List UInt8 := [187, 0, 61, 89, 183, 0, 63, 181, 0, 68, 177]
abbrev dktX1_init_4 : List UInt8 := dkwX1_init_4 ++ []
def dkwX1_init_3 : List UInt8 := [181, 0, 54, 42, 6, 188, 10, 181, 0, 58, 42, 187, 0, 61, 89, 183, 0, 63, 181, 0, 64, 42]
abbrev dktX1_init_3 : List UInt8 := dkwX1_init_3 ++ dktX1_init_4
def dkwX1_init_2 : List UInt8 := [187, 0, 35, 89, 42, 183, 0, 37, 181, 0, 47, 42, 17, 2, 188, 188, 8, 181, 0, 50, 42, 2]
abbrev dktX1_init_2 : List UInt8 := dkwX1_init_2 ++ dktX1_init_3
def dkwX1_init_1 : List UInt8 := [187, 0, 35, 89, 42, 183, 0, 37, 181, 0, 40, 42, 187, 0, 35, 89, 42, 183, 0, 37, 181, 0, 44, 42]
abbrev dktX1_init_1 : List UInt8 := dkwX1_init_1 ++ dktX1_init_2
def dkwX1_init_0 : List UInt8 := [42, 183, 0, 19, 42, 16, 6, 188, 10, 181, 0, 22, 42, 187, 0, 28, 89, 183, 0, 30, 181, 0, 31, 42]
abbrev dktX1_init_0 : List UInt8 := dkwX1_init_0 ++ dktX1_init_1
theorem dksX1_init_0 : cX1_init.data.toList.drop 0 = dktX1_init_0 := by decide +kernel
theorem dksX1_init_1 : cX1_init.data.toList.drop 24 = dktX1_init_1 := dk_seg dksX1_init_0 24 rfl rfl
theorem dksX1_init_2 : cX1_init.data.toList.drop 48 = dktX1_init_2 := dk_seg dksX1_init_1 24 rfl rfl
theorem dksX1_init_3 : cX1_init.data.toList.drop 70 = dktX1_init_3 := dk_seg dksX1_init_2 22 rfl rfl
theorem dksX1_init_4 : cX1_init.data.toList.drop 92 = dktX1_init_4 := dk_seg dksX1_init_3 22 rfl rfl
theorem dX1_init_0 : decode cX1_init 0 = .ok (.aload_n 0, 1) := dk_42 (dk_at dksX1_init_0 0 rfl rfl)
theorem dX1_init_1 : decode cX1_init 1 = .ok (.invokespecial 19, 3) := dk_183 0 19 (dk_at dksX1_init_0 1 rfl rfl)
theorem dX1_init_4 : decode cX1_init 4 = .ok (.aload_n 0, 1) := dk_42 (dk_at dksX1_init_0 4 rfl rfl)
theorem dX1_init_5 : decode cX1_init 5 = .ok (.bipush 6, 2) := dk_16 6 (dk_at dksX1_init_0 5 rfl rfl)
theorem dX1_init_7 : decode cX1_init 7 = .ok (.newarray .int, 2) := dk_188_10 (dk_at dksX1_init_0 7 rfl rfl)
theorem dX1_init_9 : decode cX1_init 9 = .ok (.putfield 22, 3) := dk_181 0 22 (dk_at dksX1_init_0 9 rfl rfl)
theorem dX1_init_12 : decode cX1_init 12 = .ok (.aload_n 0, 1) := dk_42 (dk_at dksX1_init_0 12 rfl rfl)
theorem dX1_init_13 : decode cX1_init 13 = .ok (.new 28, 3) := dk_187 0 28 (dk_at dksX1_init_0 13 rfl rfl)
theorem dX1_init_16 : decode cX1_init 16 = .ok (.dup, 1) := dk_89 (dk_at dksX1_init_0 16 rfl rfl)
theorem dX1_init_17 : decode cX1_init 17 = .ok (.invokespecial 30, 3) := dk_183 0 30 (dk_at dksX1_init_0 17 rfl rfl)
theorem dX1_init_20 : decode cX1_init 20 = .ok (.putfield 31, 3) := dk_181 0 31 (dk_at dksX1_init_0 20 rfl rfl)
theorem dX1_init_23 : decode cX1_init 23 = .ok (.aload_n 0, 1) := dk_42 (dk_at dksX1_init_0 23 rfl rfl)
theorem dX1_init_24 : decode cX1_init 24 = .ok (.new 35, 3) := dk_187 0 35 (dk_at dksX1_init_1 0 rfl rfl)
theorem dX1_init_27 : decode cX1_init 27 = .ok (.dup, 1) := dk_89 (dk_at dksX1_init_1 3 rfl rfl)
theorem dX1_init_28 : decode cX1_init 28 = .ok (.aload_n 0, 1) := dk_42 (dk_at dksX1_init_1 4 rfl rfl)
theorem dX1_init_29 : decode cX1_init 29 = .ok (.invokespecial 37, 3) := dk_183 0 37 (dk_at dksX1_init_1 5 rfl rfl)
theorem dX1_init_32 : decode cX1_init 32 = .ok (.putfield 40, 3) := dk_181 0 40 (dk_at dksX1_init_1 8 rfl rfl)
theorem dX1_init_35 : decode cX1_init 35 = .ok (.aload_n 0, 1) := dk_42 (dk_at dksX1_init_1 11 rfl rfl)
theorem dX1_init_36 : decode cX1_init 36 = .ok (.new 35, 3) := dk_187 0 35 (dk_at dksX1_init_1 12 rfl rfl)
theorem dX1_init_39 : decode cX1_init 39 = .ok (.dup, 1) := dk_89 (dk_at dksX1_init_1 15 rfl rfl)
theorem dX1_init_40 : decode cX1_init 40 = .ok (.aload_n 0, 1) := dk_42 (dk_at dksX1_init_1 16 rfl rfl)
theorem dX1_init_41 : decode cX1_init 41 = .ok (.invokespecial 37, 3) := dk_183 0 37 (dk_at dksX1_init_1 17 rfl rfl)
theorem dX1_init_44 : decode cX1_init 44 = .ok (.putfield 44, 3) := dk_181 0 44 (dk_at dksX1_init_1 20 rfl rfl)
theorem dX1_init_47 : decode cX1_init 47 = .ok (.aload_n 0, 1) := dk_42 (dk_at dksX1_init_1 23 rfl rfl)
theorem dX1_init_48 : decode cX1_init 48 = .ok (.new 35, 3) := dk_187 0 35 (dk_at dksX1_init_2 0 rfl rfl)
theorem dX1_init_51 : decode cX1_init 51 = .ok (.dup, 1) := dk_89 (dk_at dksX1_init_2 3 rfl rfl)
theorem dX1_init_52 : decode cX1_init 52 = .ok (.aload_n 0, 1) := dk_42 (dk_at dksX1_init_2 4 rfl rfl)
theorem dX1_init_53 : decode cX1_init 53 = .ok (.invokespecial 37, 3) := dk_183 0 37 (dk_at dksX1_init_2 5 rfl rfl)
theorem dX1_init_56 : decode cX1_init 56 = .ok (.putfield 47, 3) := dk_181 0 47 (dk_at dksX1_init_2 8 rfl rfl)
theorem dX1_init_59 : decode cX1_init 59 = .ok (.aload_n 0, 1) := dk_42 (dk_at dksX1_init_2 11 rfl rfl)
theorem dX1_init_60 : decode cX1_init 60 = .ok (.sipush 700, 3) := dk_17 2 188 (dk_at dksX1_init_2 12 rfl rfl)
theorem dX1_init_63 : decode cX1_init 63 = .ok (.newarray .byte, 2) := dk_188_8 (dk_at dksX1_init_2 15 rfl rfl)
theorem dX1_init_65 : decode cX1_init 65 = .ok (.putfield 50, 3) := dk_181 0 50 (dk_at dksX1_init_2 17 rfl rfl)
theorem dX1_init_68 : decode cX1_init 68 = .ok (.aload_n 0, 1) := dk_42 (dk_at dksX1_init_2 20 rfl rfl)
theorem dX1_init_69 : decode cX1_init 69 = .ok (.iconst (-1), 1) := dk_2 (dk_at dksX1_init_2 21 rfl rfl)
theorem dX1_init_70 : decode cX1_init 70 = .ok (.putfield 54, 3) := dk_181 0 54 (dk_at dksX1_init_3 0 rfl rfl)
theorem dX1_init_73 : decode cX1_init 73 = .ok (.aload_n 0, 1) := dk_42 (dk_at dksX1_init_3 3 rfl rfl)
theorem dX1_init_74 : decode cX1_init 74 = .ok (.iconst 3, 1) := dk_6 (dk_at dksX1_init_3 4 rfl rfl)
theorem dX1_init_75 : decode cX1_init 75 = .ok (.newarray .int, 2) := dk_188_10 (dk_at dksX1_init_3 5 rfl rfl)
theorem dX1_init_77 : decode cX1_init 77 = .ok (.putfield 58, 3) := dk_181 0 58 (dk_at dksX1_init_3 7 rfl rfl)
theorem dX1_init_80 : decode cX1_init 80 = .ok (.aload_n 0, 1) := dk_42 (dk_at dksX1_init_3 10 rfl rfl)
theorem dX1_init_81 : decode cX1_init 81 = .ok (.new 61, 3) := dk_187 0 61 (dk_at dksX1_init_3 11 rfl rfl)
theorem dX1_init_84 : decode cX1_init 84 = .ok (.dup, 1) := dk_89 (dk_at dksX1_init_3 14 rfl rfl)
theorem dX1_init_85 : decode cX1_init 85 = .ok (.invokespecial 63, 3) := dk_183 0 63 (dk_at dksX1_init_3 15 rfl rfl)
theorem dX1_init_88 : decode cX1_init 88 = .ok (.putfield 64, 3) := dk_181 0 64 (dk_at dksX1_init_3 18 rfl rfl)
theorem dX1_init_91 : decode cX1_init 91 = .ok (.aload_n 0, 1) := dk_42 (dk_at dksX1_init_3 21 rfl rfl)
theorem dX1_init_92 : decode cX1_init 92 = .ok (.new 61, 3) := dk_187 0 61 (dk_at dksX1_init_4 0 rfl rfl)
theorem dX1_init_95 : decode cX1_init 95 = .ok (.dup, 1) := dk_89 (dk_at dksX1_init_4 3 rfl rfl)
theorem dX1_init_96 : decode cX1_init 96 = .ok (.invokespecial 63, 3) := dk_183 0 63 (dk_at dksX1_init_4 4 rfl rfl)
theorem dX1_init_99 : decode cX1_init 99 = .ok (.putfield 68, 3) := dk_181 0 68 (dk_at dksX1_init_4 7 rfl rfl)
theorem dX1_init_102 : decode cX1_init 102 = .ok (.return_, 1) := dk_177 (dk_at dksX1_init_4 10 rfl rfl)
abbrev cX4_init : ByteArray := prog_12_method_1_code
def yX4_init : MethodName := ⟨RX4, "<init>", "()V"⟩
def dkwX4_init_12 : List UInt8 := [27, 6, 162, 0, 20, 42, 180, 0, 66, 16, 13, 27, 96, 16, 50, 79, 132, 1, 1, 167, 255, 237, 177]
abbrev dktX4_init_12 : List UInt8 := dkwX4_init_12 ++ []
def dkwX4_init_11 : List UInt8 := [188, 10, 181, 0, 108, 42, 17, 7, 168, 188, 10, 181, 0, 111, 42, 16, 24, 188, 10, 181, 0, 114, 3, 60]
abbrev dktX4_init_11 : List UInt8 := dkwX4_init_11 ++ dktX4_init_12
def dkwX4_init_10 : List UInt8 := [181, 0, 99, 42, 17, 28, 32, 188, 10, 181, 0, 102, 42, 16, 24, 188, 10, 181, 0, 105, 42, 16, 49]
abbrev dktX4_init_10 : List UInt8 := dkwX4_init_10 ++ dktX4_init_11
def dkwX4_init_9 : List UInt8 := [181, 0, 90, 42, 16, 10, 188, 10, 181, 0, 93, 42, 16, 24, 188, 10, 181, 0, 96, 42, 16, 12, 188, 10]
abbrev dktX4_init_9 : List UInt8 := dkwX4_init_9 ++ dktX4_init_10
def dkwX4_init_8 : List UInt8 := [181, 0, 81, 42, 16, 6, 188, 10, 181, 0, 84, 42, 16, 9, 188, 10, 181, 0, 87, 42, 16, 10, 188, 10]
abbrev dktX4_init_8 : List UInt8 := dkwX4_init_8 ++ dktX4_init_9
def dkwX4_init_7 : List UInt8 := [42, 17, 3, 182, 188, 10, 181, 0, 75, 42, 16, 12, 188, 10, 181, 0, 78, 42, 17, 1, 192, 188, 10]
abbrev dktX4_init_7 : List UInt8 := dkwX4_init_7 ++ dktX4_init_8
def dkwX4_init_6 : List UInt8 := [16, 98, 188, 10, 181, 0, 66, 42, 17, 7, 168, 188, 10, 181, 0, 69, 42, 16, 6, 188, 10, 181, 0, 72]
abbrev dktX4_init_6 : List UInt8 := dkwX4_init_6 ++ dktX4_init_7
def dkwX4_init_5 : List UInt8 := [188, 10, 181, 0, 56, 42, 17, 3, 182, 188, 10, 181, 0, 59, 42, 16, 9, 188, 4, 181, 0, 62, 42]
abbrev dktX4_init_5 : List UInt8 := dkwX4_init_5 ++ dktX4_init_6
def dkwX4_init_4 : List UInt8 := [181, 0, 47, 42, 16, 8, 188, 10, 181, 0, 50, 42, 16, 49, 188, 10, 181, 0, 53, 42, 17, 5, 120]
abbrev dktX4_init_4 : List UInt8 := dkwX4_init_4 ++ dktX4_init_5
def dkwX4_init_3 : List UInt8 := [181, 0, 38, 42, 6, 188, 10, 181, 0, 41, 42, 16, 6, 188, 10, 181, 0, 44, 42, 16, 8, 188, 10]
abbrev dktX4_init_3 : List UInt8 := dkwX4_init_3 ++ dktX4_init_4
def dkwX4_init_2 : List UInt8 := [181, 0, 29, 42, 17, 5, 120, 188, 10, 181, 0, 32, 42, 17, 2, 188, 188, 10, 181, 0, 35, 42, 2]
abbrev dktX4_init_2 : List UInt8 := dkwX4_init_2 ++ dktX4_init_3
def dkwX4_init_1 : List UInt8 := [181, 0, 19, 42, 16, 6, 188, 10, 181, 0, 22, 42, 16, 8, 188, 10, 181, 0, 26, 42, 16, 8, 188, 10]
abbrev dktX4_init_1 : List UInt8 := dkwX4_init_1 ++ dktX4_init_2
def dkwX4_init_0 : List UInt8 := [42, 183, 0, 1, 42, 6, 181, 0, 7, 42, 16, 7, 181, 0, 13, 42, 2, 181, 0, 16, 42, 2]
abbrev dktX4_init_0 : List UInt8 := dkwX4_init_0 ++ dktX4_init_1
theorem dksX4_init_0 : cX4_init.data.toList.drop 0 = dktX4_init_0 := by decide +kernel
theorem dksX4_init_1 : cX4_init.data.toList.drop 22 = dktX4_init_1 := dk_seg dksX4_init_0 22 rfl rfl
theorem dksX4_init_2 : cX4_init.data.toList.drop 46 = dktX4_init_2 := dk_seg dksX4_init_1 24 rfl rfl
theorem dksX4_init_3 : cX4_init.data.toList.drop 69 = dktX4_init_3 := dk_seg dksX4_init_2 23 rfl rfl
theorem dksX4_init_4 : cX4_init.data.toList.drop 92 = dktX4_init_4 := dk_seg dksX4_init_3 23 rfl rfl
theorem dksX4_init_5 : cX4_init.data.toList.drop 115 = dktX4_init_5 := dk_seg dksX4_init_4 23 rfl rfl
theorem dksX4_init_6 : cX4_init.data.toList.drop 138 = dktX4_init_6 := dk_seg dksX4_init_5 23 rfl rfl
theorem dksX4_init_7 : cX4_init.data.toList.drop 162 = dktX4_init_7 := dk_seg dksX4_init_6 24 rfl rfl
theorem dksX4_init_8 : cX4_init.data.toList.drop 185 = dktX4_init_8 := dk_seg dksX4_init_7 23 rfl rfl
theorem dksX4_init_9 : cX4_init.data.toList.drop 209 = dktX4_init_9 := dk_seg dksX4_init_8 24 rfl rfl
theorem dksX4_init_10 : cX4_init.data.toList.drop 233 = dktX4_init_10 := dk_seg dksX4_init_9 24 rfl rfl
theorem dksX4_init_11 : cX4_init.data.toList.drop 256 = dktX4_init_11 := dk_seg dksX4_init_10 23 rfl rfl
theorem dksX4_init_12 : cX4_init.data.toList.drop 280 = dktX4_init_12 := dk_seg dksX4_init_11 24 rfl rfl
theorem dX4_init_0 : decode cX4_init 0 = .ok (.aload_n 0, 1) := dk_42 (dk_at dksX4_init_0 0 rfl rfl)
theorem dX4_init_1 : decode cX4_init 1 = .ok (.invokespecial 1, 3) := dk_183 0 1 (dk_at dksX4_init_0 1 rfl rfl)
theorem dX4_init_4 : decode cX4_init 4 = .ok (.aload_n 0, 1) := dk_42 (dk_at dksX4_init_0 4 rfl rfl)
theorem dX4_init_5 : decode cX4_init 5 = .ok (.iconst 3, 1) := dk_6 (dk_at dksX4_init_0 5 rfl rfl)
theorem dX4_init_6 : decode cX4_init 6 = .ok (.putfield 7, 3) := dk_181 0 7 (dk_at dksX4_init_0 6 rfl rfl)
theorem dX4_init_9 : decode cX4_init 9 = .ok (.aload_n 0, 1) := dk_42 (dk_at dksX4_init_0 9 rfl rfl)
theorem dX4_init_10 : decode cX4_init 10 = .ok (.bipush 7, 2) := dk_16 7 (dk_at dksX4_init_0 10 rfl rfl)
theorem dX4_init_12 : decode cX4_init 12 = .ok (.putfield 13, 3) := dk_181 0 13 (dk_at dksX4_init_0 12 rfl rfl)
theorem dX4_init_15 : decode cX4_init 15 = .ok (.aload_n 0, 1) := dk_42 (dk_at dksX4_init_0 15 rfl rfl)
theorem dX4_init_16 : decode cX4_init 16 = .ok (.iconst (-1), 1) := dk_2 (dk_at dksX4_init_0 16 rfl rfl)
theorem dX4_init_17 : decode cX4_init 17 = .ok (.putfield 16, 3) := dk_181 0 16 (dk_at dksX4_init_0 17 rfl rfl)
theorem dX4_init_20 : decode cX4_init 20 = .ok (.aload_n 0, 1) := dk_42 (dk_at dksX4_init_0 20 rfl rfl)
theorem dX4_init_21 : decode cX4_init 21 = .ok (.iconst (-1), 1) := dk_2 (dk_at dksX4_init_0 21 rfl rfl)
theorem dX4_init_22 : decode cX4_init 22 = .ok (.putfield 19, 3) := dk_181 0 19 (dk_at dksX4_init_1 0 rfl rfl)
theorem dX4_init_25 : decode cX4_init 25 = .ok (.aload_n 0, 1) := dk_42 (dk_at dksX4_init_1 3 rfl rfl)
theorem dX4_init_26 : decode cX4_init 26 = .ok (.bipush 6, 2) := dk_16 6 (dk_at dksX4_init_1 4 rfl rfl)
theorem dX4_init_28 : decode cX4_init 28 = .ok (.newarray .int, 2) := dk_188_10 (dk_at dksX4_init_1 6 rfl rfl)
theorem dX4_init_30 : decode cX4_init 30 = .ok (.putfield 22, 3) := dk_181 0 22 (dk_at dksX4_init_1 8 rfl rfl)
theorem dX4_init_33 : decode cX4_init 33 = .ok (.aload_n 0, 1) := dk_42 (dk_at dksX4_init_1 11 rfl rfl)
theorem dX4_init_34 : decode cX4_init 34 = .ok (.bipush 8, 2) := dk_16 8 (dk_at dksX4_init_1 12 rfl rfl)
theorem dX4_init_36 : decode cX4_init 36 = .ok (.newarray .int, 2) := dk_188_10 (dk_at dksX4_init_1 14 rfl rfl)
theorem dX4_init_38 : decode cX4_init 38 = .ok (.putfield 26, 3) := dk_181 0 26 (dk_at dksX4_init_1 16 rfl rfl)
theorem dX4_init_41 : decode cX4_init 41 = .ok (.aload_n 0, 1) := dk_42 (dk_at dksX4_init_1 19 rfl rfl)
theorem dX4_init_42 : decode cX4_init 42 = .ok (.bipush 8, 2) := dk_16 8 (dk_at dksX4_init_1 20 rfl rfl)
theorem dX4_init_44 : decode cX4_init 44 = .ok (.newarray .int, 2) := dk_188_10 (dk_at dksX4_init_1 22 rfl rfl)
theorem dX4_init_46 : decode cX4_init 46 = .ok (.putfield 29, 3) := dk_181 0 29 (dk_at dksX4_init_2 0 rfl rfl)
theorem dX4_init_49 : decode cX4_init 49 = .ok (.aload_n 0, 1) := dk_42 (dk_at dksX4_init_2 3 rfl rfl)
theorem dX4_init_50 : decode cX4_init 50 = .ok (.sipush 1400, 3) := dk_17 5 120 (dk_at dksX4_init_2 4 rfl rfl)
theorem dX4_init_53 : decode cX4_init 53 = .ok (.newarray .int, 2) := dk_188_10 (dk_at dksX4_init_2 7 rfl rfl)
theorem dX4_init_55 : decode cX4_init 55 = .ok (.putfield 32, 3) := dk_181 0 32 (dk_at dksX4_init_2 9 rfl rfl)
theorem dX4_init_58 : decode cX4_init 58 = .ok (.aload_n 0, 1) := dk_42 (dk_at dksX4_init_2 12 rfl rfl)
theorem dX4_init_59 : decode cX4_init 59 = .ok (.sipush 700, 3) := dk_17 2 188 (dk_at dksX4_init_2 13 rfl rfl)
theorem dX4_init_62 : decode cX4_init 62 = .ok (.newarray .int, 2) := dk_188_10 (dk_at dksX4_init_2 16 rfl rfl)
theorem dX4_init_64 : decode cX4_init 64 = .ok (.putfield 35, 3) := dk_181 0 35 (dk_at dksX4_init_2 18 rfl rfl)
theorem dX4_init_67 : decode cX4_init 67 = .ok (.aload_n 0, 1) := dk_42 (dk_at dksX4_init_2 21 rfl rfl)
theorem dX4_init_68 : decode cX4_init 68 = .ok (.iconst (-1), 1) := dk_2 (dk_at dksX4_init_2 22 rfl rfl)
theorem dX4_init_69 : decode cX4_init 69 = .ok (.putfield 38, 3) := dk_181 0 38 (dk_at dksX4_init_3 0 rfl rfl)
theorem dX4_init_72 : decode cX4_init 72 = .ok (.aload_n 0, 1) := dk_42 (dk_at dksX4_init_3 3 rfl rfl)
theorem dX4_init_73 : decode cX4_init 73 = .ok (.iconst 3, 1) := dk_6 (dk_at dksX4_init_3 4 rfl rfl)
theorem dX4_init_74 : decode cX4_init 74 = .ok (.newarray .int, 2) := dk_188_10 (dk_at dksX4_init_3 5 rfl rfl)
theorem dX4_init_76 : decode cX4_init 76 = .ok (.putfield 41, 3) := dk_181 0 41 (dk_at dksX4_init_3 7 rfl rfl)
theorem dX4_init_79 : decode cX4_init 79 = .ok (.aload_n 0, 1) := dk_42 (dk_at dksX4_init_3 10 rfl rfl)
theorem dX4_init_80 : decode cX4_init 80 = .ok (.bipush 6, 2) := dk_16 6 (dk_at dksX4_init_3 11 rfl rfl)
theorem dX4_init_82 : decode cX4_init 82 = .ok (.newarray .int, 2) := dk_188_10 (dk_at dksX4_init_3 13 rfl rfl)
theorem dX4_init_84 : decode cX4_init 84 = .ok (.putfield 44, 3) := dk_181 0 44 (dk_at dksX4_init_3 15 rfl rfl)
theorem dX4_init_87 : decode cX4_init 87 = .ok (.aload_n 0, 1) := dk_42 (dk_at dksX4_init_3 18 rfl rfl)
theorem dX4_init_88 : decode cX4_init 88 = .ok (.bipush 8, 2) := dk_16 8 (dk_at dksX4_init_3 19 rfl rfl)
theorem dX4_init_90 : decode cX4_init 90 = .ok (.newarray .int, 2) := dk_188_10 (dk_at dksX4_init_3 21 rfl rfl)
theorem dX4_init_92 : decode cX4_init 92 = .ok (.putfield 47, 3) := dk_181 0 47 (dk_at dksX4_init_4 0 rfl rfl)
theorem dX4_init_95 : decode cX4_init 95 = .ok (.aload_n 0, 1) := dk_42 (dk_at dksX4_init_4 3 rfl rfl)
theorem dX4_init_96 : decode cX4_init 96 = .ok (.bipush 8, 2) := dk_16 8 (dk_at dksX4_init_4 4 rfl rfl)
theorem dX4_init_98 : decode cX4_init 98 = .ok (.newarray .int, 2) := dk_188_10 (dk_at dksX4_init_4 6 rfl rfl)
theorem dX4_init_100 : decode cX4_init 100 = .ok (.putfield 50, 3) := dk_181 0 50 (dk_at dksX4_init_4 8 rfl rfl)
theorem dX4_init_103 : decode cX4_init 103 = .ok (.aload_n 0, 1) := dk_42 (dk_at dksX4_init_4 11 rfl rfl)
theorem dX4_init_104 : decode cX4_init 104 = .ok (.bipush 49, 2) := dk_16 49 (dk_at dksX4_init_4 12 rfl rfl)
theorem dX4_init_106 : decode cX4_init 106 = .ok (.newarray .int, 2) := dk_188_10 (dk_at dksX4_init_4 14 rfl rfl)
theorem dX4_init_108 : decode cX4_init 108 = .ok (.putfield 53, 3) := dk_181 0 53 (dk_at dksX4_init_4 16 rfl rfl)
theorem dX4_init_111 : decode cX4_init 111 = .ok (.aload_n 0, 1) := dk_42 (dk_at dksX4_init_4 19 rfl rfl)
theorem dX4_init_112 : decode cX4_init 112 = .ok (.sipush 1400, 3) := dk_17 5 120 (dk_at dksX4_init_4 20 rfl rfl)
theorem dX4_init_115 : decode cX4_init 115 = .ok (.newarray .int, 2) := dk_188_10 (dk_at dksX4_init_5 0 rfl rfl)
theorem dX4_init_117 : decode cX4_init 117 = .ok (.putfield 56, 3) := dk_181 0 56 (dk_at dksX4_init_5 2 rfl rfl)
theorem dX4_init_120 : decode cX4_init 120 = .ok (.aload_n 0, 1) := dk_42 (dk_at dksX4_init_5 5 rfl rfl)
theorem dX4_init_121 : decode cX4_init 121 = .ok (.sipush 950, 3) := dk_17 3 182 (dk_at dksX4_init_5 6 rfl rfl)
theorem dX4_init_124 : decode cX4_init 124 = .ok (.newarray .int, 2) := dk_188_10 (dk_at dksX4_init_5 9 rfl rfl)
theorem dX4_init_126 : decode cX4_init 126 = .ok (.putfield 59, 3) := dk_181 0 59 (dk_at dksX4_init_5 11 rfl rfl)
theorem dX4_init_129 : decode cX4_init 129 = .ok (.aload_n 0, 1) := dk_42 (dk_at dksX4_init_5 14 rfl rfl)
theorem dX4_init_130 : decode cX4_init 130 = .ok (.bipush 9, 2) := dk_16 9 (dk_at dksX4_init_5 15 rfl rfl)
theorem dX4_init_132 : decode cX4_init 132 = .ok (.newarray .boolean, 2) := dk_188_4 (dk_at dksX4_init_5 17 rfl rfl)
theorem dX4_init_134 : decode cX4_init 134 = .ok (.putfield 62, 3) := dk_181 0 62 (dk_at dksX4_init_5 19 rfl rfl)
theorem dX4_init_137 : decode cX4_init 137 = .ok (.aload_n 0, 1) := dk_42 (dk_at dksX4_init_5 22 rfl rfl)
theorem dX4_init_138 : decode cX4_init 138 = .ok (.bipush 98, 2) := dk_16 98 (dk_at dksX4_init_6 0 rfl rfl)
theorem dX4_init_140 : decode cX4_init 140 = .ok (.newarray .int, 2) := dk_188_10 (dk_at dksX4_init_6 2 rfl rfl)
theorem dX4_init_142 : decode cX4_init 142 = .ok (.putfield 66, 3) := dk_181 0 66 (dk_at dksX4_init_6 4 rfl rfl)
theorem dX4_init_145 : decode cX4_init 145 = .ok (.aload_n 0, 1) := dk_42 (dk_at dksX4_init_6 7 rfl rfl)
theorem dX4_init_146 : decode cX4_init 146 = .ok (.sipush 1960, 3) := dk_17 7 168 (dk_at dksX4_init_6 8 rfl rfl)
theorem dX4_init_149 : decode cX4_init 149 = .ok (.newarray .int, 2) := dk_188_10 (dk_at dksX4_init_6 11 rfl rfl)
theorem dX4_init_151 : decode cX4_init 151 = .ok (.putfield 69, 3) := dk_181 0 69 (dk_at dksX4_init_6 13 rfl rfl)
theorem dX4_init_154 : decode cX4_init 154 = .ok (.aload_n 0, 1) := dk_42 (dk_at dksX4_init_6 16 rfl rfl)
theorem dX4_init_155 : decode cX4_init 155 = .ok (.bipush 6, 2) := dk_16 6 (dk_at dksX4_init_6 17 rfl rfl)
theorem dX4_init_157 : decode cX4_init 157 = .ok (.newarray .int, 2) := dk_188_10 (dk_at dksX4_init_6 19 rfl rfl)
theorem dX4_init_159 : decode cX4_init 159 = .ok (.putfield 72, 3) := dk_181 0 72 (dk_at dksX4_init_6 21 rfl rfl)
theorem dX4_init_162 : decode cX4_init 162 = .ok (.aload_n 0, 1) := dk_42 (dk_at dksX4_init_7 0 rfl rfl)
theorem dX4_init_163 : decode cX4_init 163 = .ok (.sipush 950, 3) := dk_17 3 182 (dk_at dksX4_init_7 1 rfl rfl)
theorem dX4_init_166 : decode cX4_init 166 = .ok (.newarray .int, 2) := dk_188_10 (dk_at dksX4_init_7 4 rfl rfl)
theorem dX4_init_168 : decode cX4_init 168 = .ok (.putfield 75, 3) := dk_181 0 75 (dk_at dksX4_init_7 6 rfl rfl)
theorem dX4_init_171 : decode cX4_init 171 = .ok (.aload_n 0, 1) := dk_42 (dk_at dksX4_init_7 9 rfl rfl)
theorem dX4_init_172 : decode cX4_init 172 = .ok (.bipush 12, 2) := dk_16 12 (dk_at dksX4_init_7 10 rfl rfl)
theorem dX4_init_174 : decode cX4_init 174 = .ok (.newarray .int, 2) := dk_188_10 (dk_at dksX4_init_7 12 rfl rfl)
theorem dX4_init_176 : decode cX4_init 176 = .ok (.putfield 78, 3) := dk_181 0 78 (dk_at dksX4_init_7 14 rfl rfl)
theorem dX4_init_179 : decode cX4_init 179 = .ok (.aload_n 0, 1) := dk_42 (dk_at dksX4_init_7 17 rfl rfl)
theorem dX4_init_180 : decode cX4_init 180 = .ok (.sipush 448, 3) := dk_17 1 192 (dk_at dksX4_init_7 18 rfl rfl)
theorem dX4_init_183 : decode cX4_init 183 = .ok (.newarray .int, 2) := dk_188_10 (dk_at dksX4_init_7 21 rfl rfl)
theorem dX4_init_185 : decode cX4_init 185 = .ok (.putfield 81, 3) := dk_181 0 81 (dk_at dksX4_init_8 0 rfl rfl)
theorem dX4_init_188 : decode cX4_init 188 = .ok (.aload_n 0, 1) := dk_42 (dk_at dksX4_init_8 3 rfl rfl)
theorem dX4_init_189 : decode cX4_init 189 = .ok (.bipush 6, 2) := dk_16 6 (dk_at dksX4_init_8 4 rfl rfl)
theorem dX4_init_191 : decode cX4_init 191 = .ok (.newarray .int, 2) := dk_188_10 (dk_at dksX4_init_8 6 rfl rfl)
theorem dX4_init_193 : decode cX4_init 193 = .ok (.putfield 84, 3) := dk_181 0 84 (dk_at dksX4_init_8 8 rfl rfl)
theorem dX4_init_196 : decode cX4_init 196 = .ok (.aload_n 0, 1) := dk_42 (dk_at dksX4_init_8 11 rfl rfl)
theorem dX4_init_197 : decode cX4_init 197 = .ok (.bipush 9, 2) := dk_16 9 (dk_at dksX4_init_8 12 rfl rfl)
theorem dX4_init_199 : decode cX4_init 199 = .ok (.newarray .int, 2) := dk_188_10 (dk_at dksX4_init_8 14 rfl rfl)
theorem dX4_init_201 : decode cX4_init 201 = .ok (.putfield 87, 3) := dk_181 0 87 (dk_at dksX4_init_8 16 rfl rfl)
theorem dX4_init_204 : decode cX4_init 204 = .ok (.aload_n 0, 1) := dk_42 (dk_at dksX4_init_8 19 rfl rfl)
theorem dX4_init_205 : decode cX4_init 205 = .ok (.bipush 10, 2) := dk_16 10 (dk_at dksX4_init_8 20 rfl rfl)
theorem dX4_init_207 : decode cX4_init 207 = .ok (.newarray .int, 2) := dk_188_10 (dk_at dksX4_init_8 22 rfl rfl)
theorem dX4_init_209 : decode cX4_init 209 = .ok (.putfield 90, 3) := dk_181 0 90 (dk_at dksX4_init_9 0 rfl rfl)
theorem dX4_init_212 : decode cX4_init 212 = .ok (.aload_n 0, 1) := dk_42 (dk_at dksX4_init_9 3 rfl rfl)
theorem dX4_init_213 : decode cX4_init 213 = .ok (.bipush 10, 2) := dk_16 10 (dk_at dksX4_init_9 4 rfl rfl)
theorem dX4_init_215 : decode cX4_init 215 = .ok (.newarray .int, 2) := dk_188_10 (dk_at dksX4_init_9 6 rfl rfl)
theorem dX4_init_217 : decode cX4_init 217 = .ok (.putfield 93, 3) := dk_181 0 93 (dk_at dksX4_init_9 8 rfl rfl)
theorem dX4_init_220 : decode cX4_init 220 = .ok (.aload_n 0, 1) := dk_42 (dk_at dksX4_init_9 11 rfl rfl)
theorem dX4_init_221 : decode cX4_init 221 = .ok (.bipush 24, 2) := dk_16 24 (dk_at dksX4_init_9 12 rfl rfl)
theorem dX4_init_223 : decode cX4_init 223 = .ok (.newarray .int, 2) := dk_188_10 (dk_at dksX4_init_9 14 rfl rfl)
theorem dX4_init_225 : decode cX4_init 225 = .ok (.putfield 96, 3) := dk_181 0 96 (dk_at dksX4_init_9 16 rfl rfl)
theorem dX4_init_228 : decode cX4_init 228 = .ok (.aload_n 0, 1) := dk_42 (dk_at dksX4_init_9 19 rfl rfl)
theorem dX4_init_229 : decode cX4_init 229 = .ok (.bipush 12, 2) := dk_16 12 (dk_at dksX4_init_9 20 rfl rfl)
theorem dX4_init_231 : decode cX4_init 231 = .ok (.newarray .int, 2) := dk_188_10 (dk_at dksX4_init_9 22 rfl rfl)
theorem dX4_init_233 : decode cX4_init 233 = .ok (.putfield 99, 3) := dk_181 0 99 (dk_at dksX4_init_10 0 rfl rfl)
theorem dX4_init_236 : decode cX4_init 236 = .ok (.aload_n 0, 1) := dk_42 (dk_at dksX4_init_10 3 rfl rfl)
theorem dX4_init_237 : decode cX4_init 237 = .ok (.sipush 7200, 3) := dk_17 28 32 (dk_at dksX4_init_10 4 rfl rfl)
theorem dX4_init_240 : decode cX4_init 240 = .ok (.newarray .int, 2) := dk_188_10 (dk_at dksX4_init_10 7 rfl rfl)
theorem dX4_init_242 : decode cX4_init 242 = .ok (.putfield 102, 3) := dk_181 0 102 (dk_at dksX4_init_10 9 rfl rfl)
theorem dX4_init_245 : decode cX4_init 245 = .ok (.aload_n 0, 1) := dk_42 (dk_at dksX4_init_10 12 rfl rfl)
theorem dX4_init_246 : decode cX4_init 246 = .ok (.bipush 24, 2) := dk_16 24 (dk_at dksX4_init_10 13 rfl rfl)
theorem dX4_init_248 : decode cX4_init 248 = .ok (.newarray .int, 2) := dk_188_10 (dk_at dksX4_init_10 15 rfl rfl)
theorem dX4_init_250 : decode cX4_init 250 = .ok (.putfield 105, 3) := dk_181 0 105 (dk_at dksX4_init_10 17 rfl rfl)
theorem dX4_init_253 : decode cX4_init 253 = .ok (.aload_n 0, 1) := dk_42 (dk_at dksX4_init_10 20 rfl rfl)
theorem dX4_init_254 : decode cX4_init 254 = .ok (.bipush 49, 2) := dk_16 49 (dk_at dksX4_init_10 21 rfl rfl)
theorem dX4_init_256 : decode cX4_init 256 = .ok (.newarray .int, 2) := dk_188_10 (dk_at dksX4_init_11 0 rfl rfl)
theorem dX4_init_258 : decode cX4_init 258 = .ok (.putfield 108, 3) := dk_181 0 108 (dk_at dksX4_init_11 2 rfl rfl)
theorem dX4_init_261 : decode cX4_init 261 = .ok (.aload_n 0, 1) := dk_42 (dk_at dksX4_init_11 5 rfl rfl)
theorem dX4_init_262 : decode cX4_init 262 = .ok (.sipush 1960, 3) := dk_17 7 168 (dk_at dksX4_init_11 6 rfl rfl)
theorem dX4_init_265 : decode cX4_init 265 = .ok (.newarray .int, 2) := dk_188_10 (dk_at dksX4_init_11 9 rfl rfl)
theorem dX4_init_267 : decode cX4_init 267 = .ok (.putfield 111, 3) := dk_181 0 111 (dk_at dksX4_init_11 11 rfl rfl)
theorem dX4_init_270 : decode cX4_init 270 = .ok (.aload_n 0, 1) := dk_42 (dk_at dksX4_init_11 14 rfl rfl)
theorem dX4_init_271 : decode cX4_init 271 = .ok (.bipush 24, 2) := dk_16 24 (dk_at dksX4_init_11 15 rfl rfl)
theorem dX4_init_273 : decode cX4_init 273 = .ok (.newarray .int, 2) := dk_188_10 (dk_at dksX4_init_11 17 rfl rfl)
theorem dX4_init_275 : decode cX4_init 275 = .ok (.putfield 114, 3) := dk_181 0 114 (dk_at dksX4_init_11 19 rfl rfl)
theorem dX4_init_278 : decode cX4_init 278 = .ok (.iconst 0, 1) := dk_3 (dk_at dksX4_init_11 22 rfl rfl)
theorem dX4_init_279 : decode cX4_init 279 = .ok (.istore_n 1, 1) := dk_60 (dk_at dksX4_init_11 23 rfl rfl)
theorem dX4_init_280 : decode cX4_init 280 = .ok (.iload_n 1, 1) := dk_27 (dk_at dksX4_init_12 0 rfl rfl)
theorem dX4_init_281 : decode cX4_init 281 = .ok (.iconst 3, 1) := dk_6 (dk_at dksX4_init_12 1 rfl rfl)
theorem dX4_init_282 : decode cX4_init 282 = .ok (.if_icmp .ge 20, 3) := dk_162 0 20 (dk_at dksX4_init_12 2 rfl rfl)
theorem dX4_init_285 : decode cX4_init 285 = .ok (.aload_n 0, 1) := dk_42 (dk_at dksX4_init_12 5 rfl rfl)
theorem dX4_init_286 : decode cX4_init 286 = .ok (.getfield 66, 3) := dk_180 0 66 (dk_at dksX4_init_12 6 rfl rfl)
theorem dX4_init_289 : decode cX4_init 289 = .ok (.bipush 13, 2) := dk_16 13 (dk_at dksX4_init_12 9 rfl rfl)
theorem dX4_init_291 : decode cX4_init 291 = .ok (.iload_n 1, 1) := dk_27 (dk_at dksX4_init_12 11 rfl rfl)
theorem dX4_init_292 : decode cX4_init 292 = .ok (.iadd, 1) := dk_96 (dk_at dksX4_init_12 12 rfl rfl)
theorem dX4_init_293 : decode cX4_init 293 = .ok (.bipush 50, 2) := dk_16 50 (dk_at dksX4_init_12 13 rfl rfl)
theorem dX4_init_295 : decode cX4_init 295 = .ok (.iastore, 1) := dk_79 (dk_at dksX4_init_12 15 rfl rfl)
theorem dX4_init_296 : decode cX4_init 296 = .ok (.iinc 1 1, 3) := dk_132 1 1 (dk_at dksX4_init_12 16 rfl rfl)
theorem dX4_init_299 : decode cX4_init 299 = .ok (.goto (-19), 3) := dk_167 255 237 (dk_at dksX4_init_12 19 rfl rfl)
theorem dX4_init_302 : decode cX4_init 302 = .ok (.return_, 1) := dk_177 (dk_at dksX4_init_12 22 rfl rfl)
