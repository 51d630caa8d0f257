set_option maxRecDepth 100000
abbrev cX5_init : ByteArray := prog_7_method_1_code
def yX5_init : MethodName := ⟨RX5, "<init>", "(LHorizonSeam;I)V"⟩
def dkwX5_init_4 : List UInt8 := [8, 18, 55, 83, 181, 0, 57, 42, 28, 181, 0, 60, 177]
abbrev dktX5_init_4 : List UInt8 := dkwX5_init_4 ++ []
def dkwX5_init_3 : List UInt8 := [18, 45, 83, 89, 4, 18, 47, 83, 89, 5, 18, 49, 83, 89, 6, 18, 51, 83, 89, 7, 18, 53, 83, 89]
abbrev dktX5_init_3 : List UInt8 := dkwX5_init_3 ++ dktX5_init_4
def dkwX5_init_2 : List UInt8 := [18, 35, 83, 89, 5, 18, 37, 83, 89, 6, 18, 39, 83, 181, 0, 41, 42, 16, 6, 189, 0, 31, 89, 3]
abbrev dktX5_init_2 : List UInt8 := dkwX5_init_2 ++ dktX5_init_3
def dkwX5_init_1 : List UInt8 := [89, 42, 180, 0, 3, 183, 0, 24, 181, 0, 27, 42, 7, 189, 0, 31, 89, 3, 18, 33, 83, 89, 4]
abbrev dktX5_init_1 : List UInt8 := dkwX5_init_1 ++ dktX5_init_2
def dkwX5_init_0 : List UInt8 := [42, 43, 181, 0, 3, 42, 183, 0, 9, 42, 187, 0, 15, 89, 183, 0, 17, 181, 0, 18, 42, 187, 0, 22]
abbrev dktX5_init_0 : List UInt8 := dkwX5_init_0 ++ dktX5_init_1
theorem dksX5_init_0 : cX5_init.data.toList.drop 0 = dktX5_init_0 := by decide +kernel
theorem dksX5_init_1 : cX5_init.data.toList.drop 24 = dktX5_init_1 := dk_seg dksX5_init_0 24 rfl rfl
theorem dksX5_init_2 : cX5_init.data.toList.drop 47 = dktX5_init_2 := dk_seg dksX5_init_1 23 rfl rfl
theorem dksX5_init_3 : cX5_init.data.toList.drop 71 = dktX5_init_3 := dk_seg dksX5_init_2 24 rfl rfl
theorem dksX5_init_4 : cX5_init.data.toList.drop 95 = dktX5_init_4 := dk_seg dksX5_init_3 24 rfl rfl
theorem dX5_init_0 : decode cX5_init 0 = .ok (.aload_n 0, 1) := dk_42 (dk_at dksX5_init_0 0 rfl rfl)
theorem dX5_init_1 : decode cX5_init 1 = .ok (.aload_n 1, 1) := dk_43 (dk_at dksX5_init_0 1 rfl rfl)
theorem dX5_init_2 : decode cX5_init 2 = .ok (.putfield 3, 3) := dk_181 0 3 (dk_at dksX5_init_0 2 rfl rfl)
theorem dX5_init_5 : decode cX5_init 5 = .ok (.aload_n 0, 1) := dk_42 (dk_at dksX5_init_0 5 rfl rfl)
theorem dX5_init_6 : decode cX5_init 6 = .ok (.invokespecial 9, 3) := dk_183 0 9 (dk_at dksX5_init_0 6 rfl rfl)
theorem dX5_init_9 : decode cX5_init 9 = .ok (.aload_n 0, 1) := dk_42 (dk_at dksX5_init_0 9 rfl rfl)
theorem dX5_init_10 : decode cX5_init 10 = .ok (.new 15, 3) := dk_187 0 15 (dk_at dksX5_init_0 10 rfl rfl)
theorem dX5_init_13 : decode cX5_init 13 = .ok (.dup, 1) := dk_89 (dk_at dksX5_init_0 13 rfl rfl)
theorem dX5_init_14 : decode cX5_init 14 = .ok (.invokespecial 17, 3) := dk_183 0 17 (dk_at dksX5_init_0 14 rfl rfl)
theorem dX5_init_17 : decode cX5_init 17 = .ok (.putfield 18, 3) := dk_181 0 18 (dk_at dksX5_init_0 17 rfl rfl)
theorem dX5_init_20 : decode cX5_init 20 = .ok (.aload_n 0, 1) := dk_42 (dk_at dksX5_init_0 20 rfl rfl)
theorem dX5_init_21 : decode cX5_init 21 = .ok (.new 22, 3) := dk_187 0 22 (dk_at dksX5_init_0 21 rfl rfl)
theorem dX5_init_24 : decode cX5_init 24 = .ok (.dup, 1) := dk_89 (dk_at dksX5_init_1 0 rfl rfl)
theorem dX5_init_25 : decode cX5_init 25 = .ok (.aload_n 0, 1) := dk_42 (dk_at dksX5_init_1 1 rfl rfl)
theorem dX5_init_26 : decode cX5_init 26 = .ok (.getfield 3, 3) := dk_180 0 3 (dk_at dksX5_init_1 2 rfl rfl)
theorem dX5_init_29 : decode cX5_init 29 = .ok (.invokespecial 24, 3) := dk_183 0 24 (dk_at dksX5_init_1 5 rfl rfl)
theorem dX5_init_32 : decode cX5_init 32 = .ok (.putfield 27, 3) := dk_181 0 27 (dk_at dksX5_init_1 8 rfl rfl)
theorem dX5_init_35 : decode cX5_init 35 = .ok (.aload_n 0, 1) := dk_42 (dk_at dksX5_init_1 11 rfl rfl)
theorem dX5_init_36 : decode cX5_init 36 = .ok (.iconst 4, 1) := dk_7 (dk_at dksX5_init_1 12 rfl rfl)
theorem dX5_init_37 : decode cX5_init 37 = .ok (.anewarray 31, 3) := dk_189 0 31 (dk_at dksX5_init_1 13 rfl rfl)
theorem dX5_init_40 : decode cX5_init 40 = .ok (.dup, 1) := dk_89 (dk_at dksX5_init_1 16 rfl rfl)
theorem dX5_init_41 : decode cX5_init 41 = .ok (.iconst 0, 1) := dk_3 (dk_at dksX5_init_1 17 rfl rfl)
theorem dX5_init_42 : decode cX5_init 42 = .ok (.ldc 33, 2) := dk_18 33 (dk_at dksX5_init_1 18 rfl rfl)
theorem dX5_init_44 : decode cX5_init 44 = .ok (.aastore, 1) := dk_83 (dk_at dksX5_init_1 20 rfl rfl)
theorem dX5_init_45 : decode cX5_init 45 = .ok (.dup, 1) := dk_89 (dk_at dksX5_init_1 21 rfl rfl)
theorem dX5_init_46 : decode cX5_init 46 = .ok (.iconst 1, 1) := dk_4 (dk_at dksX5_init_1 22 rfl rfl)
theorem dX5_init_47 : decode cX5_init 47 = .ok (.ldc 35, 2) := dk_18 35 (dk_at dksX5_init_2 0 rfl rfl)
theorem dX5_init_49 : decode cX5_init 49 = .ok (.aastore, 1) := dk_83 (dk_at dksX5_init_2 2 rfl rfl)
theorem dX5_init_50 : decode cX5_init 50 = .ok (.dup, 1) := dk_89 (dk_at dksX5_init_2 3 rfl rfl)
theorem dX5_init_51 : decode cX5_init 51 = .ok (.iconst 2, 1) := dk_5 (dk_at dksX5_init_2 4 rfl rfl)
theorem dX5_init_52 : decode cX5_init 52 = .ok (.ldc 37, 2) := dk_18 37 (dk_at dksX5_init_2 5 rfl rfl)
theorem dX5_init_54 : decode cX5_init 54 = .ok (.aastore, 1) := dk_83 (dk_at dksX5_init_2 7 rfl rfl)
theorem dX5_init_55 : decode cX5_init 55 = .ok (.dup, 1) := dk_89 (dk_at dksX5_init_2 8 rfl rfl)
theorem dX5_init_56 : decode cX5_init 56 = .ok (.iconst 3, 1) := dk_6 (dk_at dksX5_init_2 9 rfl rfl)
theorem dX5_init_57 : decode cX5_init 57 = .ok (.ldc 39, 2) := dk_18 39 (dk_at dksX5_init_2 10 rfl rfl)
theorem dX5_init_59 : decode cX5_init 59 = .ok (.aastore, 1) := dk_83 (dk_at dksX5_init_2 12 rfl rfl)
theorem dX5_init_60 : decode cX5_init 60 = .ok (.putfield 41, 3) := dk_181 0 41 (dk_at dksX5_init_2 13 rfl rfl)
theorem dX5_init_63 : decode cX5_init 63 = .ok (.aload_n 0, 1) := dk_42 (dk_at dksX5_init_2 16 rfl rfl)
theorem dX5_init_64 : decode cX5_init 64 = .ok (.bipush 6, 2) := dk_16 6 (dk_at dksX5_init_2 17 rfl rfl)
theorem dX5_init_66 : decode cX5_init 66 = .ok (.anewarray 31, 3) := dk_189 0 31 (dk_at dksX5_init_2 19 rfl rfl)
theorem dX5_init_69 : decode cX5_init 69 = .ok (.dup, 1) := dk_89 (dk_at dksX5_init_2 22 rfl rfl)
theorem dX5_init_70 : decode cX5_init 70 = .ok (.iconst 0, 1) := dk_3 (dk_at dksX5_init_2 23 rfl rfl)
theorem dX5_init_71 : decode cX5_init 71 = .ok (.ldc 45, 2) := dk_18 45 (dk_at dksX5_init_3 0 rfl rfl)
theorem dX5_init_73 : decode cX5_init 73 = .ok (.aastore, 1) := dk_83 (dk_at dksX5_init_3 2 rfl rfl)
theorem dX5_init_74 : decode cX5_init 74 = .ok (.dup, 1) := dk_89 (dk_at dksX5_init_3 3 rfl rfl)
theorem dX5_init_75 : decode cX5_init 75 = .ok (.iconst 1, 1) := dk_4 (dk_at dksX5_init_3 4 rfl rfl)
theorem dX5_init_76 : decode cX5_init 76 = .ok (.ldc 47, 2) := dk_18 47 (dk_at dksX5_init_3 5 rfl rfl)
theorem dX5_init_78 : decode cX5_init 78 = .ok (.aastore, 1) := dk_83 (dk_at dksX5_init_3 7 rfl rfl)
theorem dX5_init_79 : decode cX5_init 79 = .ok (.dup, 1) := dk_89 (dk_at dksX5_init_3 8 rfl rfl)
theorem dX5_init_80 : decode cX5_init 80 = .ok (.iconst 2, 1) := dk_5 (dk_at dksX5_init_3 9 rfl rfl)
theorem dX5_init_81 : decode cX5_init 81 = .ok (.ldc 49, 2) := dk_18 49 (dk_at dksX5_init_3 10 rfl rfl)
theorem dX5_init_83 : decode cX5_init 83 = .ok (.aastore, 1) := dk_83 (dk_at dksX5_init_3 12 rfl rfl)
theorem dX5_init_84 : decode cX5_init 84 = .ok (.dup, 1) := dk_89 (dk_at dksX5_init_3 13 rfl rfl)
theorem dX5_init_85 : decode cX5_init 85 = .ok (.iconst 3, 1) := dk_6 (dk_at dksX5_init_3 14 rfl rfl)
theorem dX5_init_86 : decode cX5_init 86 = .ok (.ldc 51, 2) := dk_18 51 (dk_at dksX5_init_3 15 rfl rfl)
theorem dX5_init_88 : decode cX5_init 88 = .ok (.aastore, 1) := dk_83 (dk_at dksX5_init_3 17 rfl rfl)
theorem dX5_init_89 : decode cX5_init 89 = .ok (.dup, 1) := dk_89 (dk_at dksX5_init_3 18 rfl rfl)
theorem dX5_init_90 : decode cX5_init 90 = .ok (.iconst 4, 1) := dk_7 (dk_at dksX5_init_3 19 rfl rfl)
theorem dX5_init_91 : decode cX5_init 91 = .ok (.ldc 53, 2) := dk_18 53 (dk_at dksX5_init_3 20 rfl rfl)
theorem dX5_init_93 : decode cX5_init 93 = .ok (.aastore, 1) := dk_83 (dk_at dksX5_init_3 22 rfl rfl)
theorem dX5_init_94 : decode cX5_init 94 = .ok (.dup, 1) := dk_89 (dk_at dksX5_init_3 23 rfl rfl)
theorem dX5_init_95 : decode cX5_init 95 = .ok (.iconst 5, 1) := dk_8 (dk_at dksX5_init_4 0 rfl rfl)
theorem dX5_init_96 : decode cX5_init 96 = .ok (.ldc 55, 2) := dk_18 55 (dk_at dksX5_init_4 1 rfl rfl)
theorem dX5_init_98 : decode cX5_init 98 = .ok (.aastore, 1) := dk_83 (dk_at dksX5_init_4 3 rfl rfl)
theorem dX5_init_99 : decode cX5_init 99 = .ok (.putfield 57, 3) := dk_181 0 57 (dk_at dksX5_init_4 4 rfl rfl)
theorem dX5_init_102 : decode cX5_init 102 = .ok (.aload_n 0, 1) := dk_42 (dk_at dksX5_init_4 7 rfl rfl)
theorem dX5_init_103 : decode cX5_init 103 = .ok (.iload_n 2, 1) := dk_28 (dk_at dksX5_init_4 8 rfl rfl)
theorem dX5_init_104 : decode cX5_init 104 = .ok (.putfield 60, 3) := dk_181 0 60 (dk_at dksX5_init_4 9 rfl rfl)
theorem dX5_init_107 : decode cX5_init 107 = .ok (.return_, 1) := dk_177 (dk_at dksX5_init_4 12 rfl rfl)
abbrev cJ2_init_2 : ByteArray := prog_39_method_3_code
def yJ2_init_2 : MethodName := ⟨RJ2, "<init>", "(Ljava/util/Collection;)V"⟩
def dkwJ2_init_2_2 : List UInt8 := [18, 56, 184, 0, 57, 181, 0, 9, 167, 0, 10, 42, 178, 0, 15, 181, 0, 9, 177]
abbrev dktJ2_init_2_2 : List UInt8 := dkwJ2_init_2_2 ++ []
def dkwJ2_init_2_1 : List UInt8 := [185, 0, 52, 1, 0, 18, 10, 166, 0, 11, 42, 44, 181, 0, 9, 167, 0, 27, 42, 44, 42, 180, 0, 48]
abbrev dktJ2_init_2_1 : List UInt8 := dkwJ2_init_2_1 ++ dktJ2_init_2_2
def dkwJ2_init_2_0 : List UInt8 := [42, 183, 0, 1, 43, 185, 0, 42, 1, 0, 77, 42, 44, 190, 90, 181, 0, 48, 153, 0, 39, 43]
abbrev dktJ2_init_2_0 : List UInt8 := dkwJ2_init_2_0 ++ dktJ2_init_2_1
theorem dksJ2_init_2_0 : cJ2_init_2.data.toList.drop 0 = dktJ2_init_2_0 := by decide +kernel
theorem dksJ2_init_2_1 : cJ2_init_2.data.toList.drop 22 = dktJ2_init_2_1 := dk_seg dksJ2_init_2_0 22 rfl rfl
theorem dksJ2_init_2_2 : cJ2_init_2.data.toList.drop 46 = dktJ2_init_2_2 := dk_seg dksJ2_init_2_1 24 rfl rfl
theorem dJ2_init_2_0 : decode cJ2_init_2 0 = .ok (.aload_n 0, 1) := dk_42 (dk_at dksJ2_init_2_0 0 rfl rfl)
theorem dJ2_init_2_1 : decode cJ2_init_2 1 = .ok (.invokespecial 1, 3) := dk_183 0 1 (dk_at dksJ2_init_2_0 1 rfl rfl)
theorem dJ2_init_2_4 : decode cJ2_init_2 4 = .ok (.aload_n 1, 1) := dk_43 (dk_at dksJ2_init_2_0 4 rfl rfl)
theorem dJ2_init_2_5 : decode cJ2_init_2 5 = .ok (.invokeinterface 42 1, 5) := by decide +kernel
theorem dJ2_init_2_10 : decode cJ2_init_2 10 = .ok (.astore_n 2, 1) := dk_77 (dk_at dksJ2_init_2_0 10 rfl rfl)
theorem dJ2_init_2_11 : decode cJ2_init_2 11 = .ok (.aload_n 0, 1) := dk_42 (dk_at dksJ2_init_2_0 11 rfl rfl)
theorem dJ2_init_2_12 : decode cJ2_init_2 12 = .ok (.aload_n 2, 1) := dk_44 (dk_at dksJ2_init_2_0 12 rfl rfl)
theorem dJ2_init_2_13 : decode cJ2_init_2 13 = .ok (.arraylength, 1) := dk_190 (dk_at dksJ2_init_2_0 13 rfl rfl)
theorem dJ2_init_2_14 : decode cJ2_init_2 14 = .ok (.dup_x1, 1) := dk_90 (dk_at dksJ2_init_2_0 14 rfl rfl)
theorem dJ2_init_2_15 : decode cJ2_init_2 15 = .ok (.putfield 48, 3) := dk_181 0 48 (dk_at dksJ2_init_2_0 15 rfl rfl)
theorem dJ2_init_2_18 : decode cJ2_init_2 18 = .ok (.ifCond .eq 39, 3) := dk_153 0 39 (dk_at dksJ2_init_2_0 18 rfl rfl)
theorem dJ2_init_2_21 : decode cJ2_init_2 21 = .ok (.aload_n 1, 1) := dk_43 (dk_at dksJ2_init_2_0 21 rfl rfl)
theorem dJ2_init_2_22 : decode cJ2_init_2 22 = .ok (.invokeinterface 52 1, 5) := by decide +kernel
theorem dJ2_init_2_27 : decode cJ2_init_2 27 = .ok (.ldc 10, 2) := dk_18 10 (dk_at dksJ2_init_2_1 5 rfl rfl)
theorem dJ2_init_2_29 : decode cJ2_init_2 29 = .ok (.if_acmp .ne 11, 3) := dk_166 0 11 (dk_at dksJ2_init_2_1 7 rfl rfl)
theorem dJ2_init_2_32 : decode cJ2_init_2 32 = .ok (.aload_n 0, 1) := dk_42 (dk_at dksJ2_init_2_1 10 rfl rfl)
theorem dJ2_init_2_33 : decode cJ2_init_2 33 = .ok (.aload_n 2, 1) := dk_44 (dk_at dksJ2_init_2_1 11 rfl rfl)
theorem dJ2_init_2_34 : decode cJ2_init_2 34 = .ok (.putfield 9, 3) := dk_181 0 9 (dk_at dksJ2_init_2_1 12 rfl rfl)
theorem dJ2_init_2_37 : decode cJ2_init_2 37 = .ok (.goto 27, 3) := dk_167 0 27 (dk_at dksJ2_init_2_1 15 rfl rfl)
theorem dJ2_init_2_40 : decode cJ2_init_2 40 = .ok (.aload_n 0, 1) := dk_42 (dk_at dksJ2_init_2_1 18 rfl rfl)
theorem dJ2_init_2_41 : decode cJ2_init_2 41 = .ok (.aload_n 2, 1) := dk_44 (dk_at dksJ2_init_2_1 19 rfl rfl)
theorem dJ2_init_2_42 : decode cJ2_init_2 42 = .ok (.aload_n 0, 1) := dk_42 (dk_at dksJ2_init_2_1 20 rfl rfl)
theorem dJ2_init_2_43 : decode cJ2_init_2 43 = .ok (.getfield 48, 3) := dk_180 0 48 (dk_at dksJ2_init_2_1 21 rfl rfl)
theorem dJ2_init_2_46 : decode cJ2_init_2 46 = .ok (.ldc 56, 2) := dk_18 56 (dk_at dksJ2_init_2_2 0 rfl rfl)
theorem dJ2_init_2_48 : decode cJ2_init_2 48 = .ok (.invokestatic 57, 3) := dk_184 0 57 (dk_at dksJ2_init_2_2 2 rfl rfl)
theorem dJ2_init_2_51 : decode cJ2_init_2 51 = .ok (.putfield 9, 3) := dk_181 0 9 (dk_at dksJ2_init_2_2 5 rfl rfl)
theorem dJ2_init_2_54 : decode cJ2_init_2 54 = .ok (.goto 10, 3) := dk_167 0 10 (dk_at dksJ2_init_2_2 8 rfl rfl)
theorem dJ2_init_2_57 : decode cJ2_init_2 57 = .ok (.aload_n 0, 1) := dk_42 (dk_at dksJ2_init_2_2 11 rfl rfl)
theorem dJ2_init_2_58 : decode cJ2_init_2 58 = .ok (.getstatic 15, 3) := dk_178 0 15 (dk_at dksJ2_init_2_2 12 rfl rfl)
theorem dJ2_init_2_61 : decode cJ2_init_2 61 = .ok (.putfield 9, 3) := dk_181 0 9 (dk_at dksJ2_init_2_2 15 rfl rfl)
theorem dJ2_init_2_64 : decode cJ2_init_2 64 = .ok (.return_, 1) := dk_177 (dk_at dksJ2_init_2_2 18 rfl rfl)
abbrev cX1_image : ByteArray := prog_1_method_68_code
def yX1_image : MethodName := ⟨RX1, "image", "()V"⟩
def dkwX1_image_1 : List UInt8 := [181, 1, 83, 42, 187, 0, 61, 89, 42, 180, 0, 68, 183, 1, 80, 181, 1, 86, 177]
abbrev dktX1_image_1 : List UInt8 := dkwX1_image_1 ++ []
def dkwX1_image_0 : List UInt8 := [42, 42, 180, 0, 40, 182, 0, 189, 181, 0, 98, 42, 187, 0, 61, 89, 42, 180, 0, 64, 183, 1, 80]
abbrev dktX1_image_0 : List UInt8 := dkwX1_image_0 ++ dktX1_image_1
theorem dksX1_image_0 : cX1_image.data.toList.drop 0 = dktX1_image_0 := by decide +kernel
theorem dksX1_image_1 : cX1_image.data.toList.drop 23 = dktX1_image_1 := dk_seg dksX1_image_0 23 rfl rfl
theorem dX1_image_0 : decode cX1_image 0 = .ok (.aload_n 0, 1) := dk_42 (dk_at dksX1_image_0 0 rfl rfl)
theorem dX1_image_1 : decode cX1_image 1 = .ok (.aload_n 0, 1) := dk_42 (dk_at dksX1_image_0 1 rfl rfl)
theorem dX1_image_2 : decode cX1_image 2 = .ok (.getfield 40, 3) := dk_180 0 40 (dk_at dksX1_image_0 2 rfl rfl)
theorem dX1_image_5 : decode cX1_image 5 = .ok (.invokevirtual 189, 3) := dk_182 0 189 (dk_at dksX1_image_0 5 rfl rfl)
theorem dX1_image_8 : decode cX1_image 8 = .ok (.putfield 98, 3) := dk_181 0 98 (dk_at dksX1_image_0 8 rfl rfl)
theorem dX1_image_11 : decode cX1_image 11 = .ok (.aload_n 0, 1) := dk_42 (dk_at dksX1_image_0 11 rfl rfl)
theorem dX1_image_12 : decode cX1_image 12 = .ok (.new 61, 3) := dk_187 0 61 (dk_at dksX1_image_0 12 rfl rfl)
theorem dX1_image_15 : decode cX1_image 15 = .ok (.dup, 1) := dk_89 (dk_at dksX1_image_0 15 rfl rfl)
theorem dX1_image_16 : decode cX1_image 16 = .ok (.aload_n 0, 1) := dk_42 (dk_at dksX1_image_0 16 rfl rfl)
theorem dX1_image_17 : decode cX1_image 17 = .ok (.getfield 64, 3) := dk_180 0 64 (dk_at dksX1_image_0 17 rfl rfl)
theorem dX1_image_20 : decode cX1_image 20 = .ok (.invokespecial 336, 3) := dk_183 1 80 (dk_at dksX1_image_0 20 rfl rfl)
theorem dX1_image_23 : decode cX1_image 23 = .ok (.putfield 339, 3) := dk_181 1 83 (dk_at dksX1_image_1 0 rfl rfl)
theorem dX1_image_26 : decode cX1_image 26 = .ok (.aload_n 0, 1) := dk_42 (dk_at dksX1_image_1 3 rfl rfl)
theorem dX1_image_27 : decode cX1_image 27 = .ok (.new 61, 3) := dk_187 0 61 (dk_at dksX1_image_1 4 rfl rfl)
theorem dX1_image_30 : decode cX1_image 30 = .ok (.dup, 1) := dk_89 (dk_at dksX1_image_1 7 rfl rfl)
theorem dX1_image_31 : decode cX1_image 31 = .ok (.aload_n 0, 1) := dk_42 (dk_at dksX1_image_1 8 rfl rfl)
theorem dX1_image_32 : decode cX1_image 32 = .ok (.getfield 68, 3) := dk_180 0 68 (dk_at dksX1_image_1 9 rfl rfl)
theorem dX1_image_35 : decode cX1_image 35 = .ok (.invokespecial 336, 3) := dk_183 1 80 (dk_at dksX1_image_1 12 rfl rfl)
theorem dX1_image_38 : decode cX1_image 38 = .ok (.putfield 342, 3) := dk_181 1 86 (dk_at dksX1_image_1 15 rfl rfl)
theorem dX1_image_41 : decode cX1_image 41 = .ok (.return_, 1) := dk_177 (dk_at dksX1_image_1 18 rfl rfl)
abbrev cX1_restore : ByteArray := prog_1_method_69_code
def yX1_restore : MethodName := ⟨RX1, "restore", "()Z"⟩
def dkwX1_restore_2 : List UInt8 := [181, 0, 68, 4, 172]
abbrev dktX1_restore_2 : List UInt8 := dkwX1_restore_2 ++ []
def dkwX1_restore_1 : List UInt8 := [89, 42, 180, 1, 83, 183, 1, 80, 181, 0, 64, 42, 187, 0, 61, 89, 42, 180, 1, 86, 183, 1, 80]
abbrev dktX1_restore_1 : List UInt8 := dkwX1_restore_1 ++ dktX1_restore_2
def dkwX1_restore_0 : List UInt8 := [42, 180, 0, 98, 199, 0, 5, 3, 172, 42, 42, 180, 0, 98, 182, 0, 189, 181, 0, 40, 42, 187, 0, 61]
abbrev dktX1_restore_0 : List UInt8 := dkwX1_restore_0 ++ dktX1_restore_1
theorem dksX1_restore_0 : cX1_restore.data.toList.drop 0 = dktX1_restore_0 := by decide +kernel
theorem dksX1_restore_1 : cX1_restore.data.toList.drop 24 = dktX1_restore_1 := dk_seg dksX1_restore_0 24 rfl rfl
theorem dksX1_restore_2 : cX1_restore.data.toList.drop 47 = dktX1_restore_2 := dk_seg dksX1_restore_1 23 rfl rfl
theorem dX1_restore_0 : decode cX1_restore 0 = .ok (.aload_n 0, 1) := dk_42 (dk_at dksX1_restore_0 0 rfl rfl)
theorem dX1_restore_1 : decode cX1_restore 1 = .ok (.getfield 98, 3) := dk_180 0 98 (dk_at dksX1_restore_0 1 rfl rfl)
theorem dX1_restore_4 : decode cX1_restore 4 = .ok (.ifnonnull 5, 3) := dk_199 0 5 (dk_at dksX1_restore_0 4 rfl rfl)
theorem dX1_restore_7 : decode cX1_restore 7 = .ok (.iconst 0, 1) := dk_3 (dk_at dksX1_restore_0 7 rfl rfl)
theorem dX1_restore_8 : decode cX1_restore 8 = .ok (.ireturn, 1) := dk_172 (dk_at dksX1_restore_0 8 rfl rfl)
theorem dX1_restore_9 : decode cX1_restore 9 = .ok (.aload_n 0, 1) := dk_42 (dk_at dksX1_restore_0 9 rfl rfl)
theorem dX1_restore_10 : decode cX1_restore 10 = .ok (.aload_n 0, 1) := dk_42 (dk_at dksX1_restore_0 10 rfl rfl)
theorem dX1_restore_11 : decode cX1_restore 11 = .ok (.getfield 98, 3) := dk_180 0 98 (dk_at dksX1_restore_0 11 rfl rfl)
theorem dX1_restore_14 : decode cX1_restore 14 = .ok (.invokevirtual 189, 3) := dk_182 0 189 (dk_at dksX1_restore_0 14 rfl rfl)
theorem dX1_restore_17 : decode cX1_restore 17 = .ok (.putfield 40, 3) := dk_181 0 40 (dk_at dksX1_restore_0 17 rfl rfl)
theorem dX1_restore_20 : decode cX1_restore 20 = .ok (.aload_n 0, 1) := dk_42 (dk_at dksX1_restore_0 20 rfl rfl)
theorem dX1_restore_21 : decode cX1_restore 21 = .ok (.new 61, 3) := dk_187 0 61 (dk_at dksX1_restore_0 21 rfl rfl)
theorem dX1_restore_24 : decode cX1_restore 24 = .ok (.dup, 1) := dk_89 (dk_at dksX1_restore_1 0 rfl rfl)
theorem dX1_restore_25 : decode cX1_restore 25 = .ok (.aload_n 0, 1) := dk_42 (dk_at dksX1_restore_1 1 rfl rfl)
theorem dX1_restore_26 : decode cX1_restore 26 = .ok (.getfield 339, 3) := dk_180 1 83 (dk_at dksX1_restore_1 2 rfl rfl)
theorem dX1_restore_29 : decode cX1_restore 29 = .ok (.invokespecial 336, 3) := dk_183 1 80 (dk_at dksX1_restore_1 5 rfl rfl)
theorem dX1_restore_32 : decode cX1_restore 32 = .ok (.putfield 64, 3) := dk_181 0 64 (dk_at dksX1_restore_1 8 rfl rfl)
theorem dX1_restore_35 : decode cX1_restore 35 = .ok (.aload_n 0, 1) := dk_42 (dk_at dksX1_restore_1 11 rfl rfl)
theorem dX1_restore_36 : decode cX1_restore 36 = .ok (.new 61, 3) := dk_187 0 61 (dk_at dksX1_restore_1 12 rfl rfl)
theorem dX1_restore_39 : decode cX1_restore 39 = .ok (.dup, 1) := dk_89 (dk_at dksX1_restore_1 15 rfl rfl)
theorem dX1_restore_40 : decode cX1_restore 40 = .ok (.aload_n 0, 1) := dk_42 (dk_at dksX1_restore_1 16 rfl rfl)
theorem dX1_restore_41 : decode cX1_restore 41 = .ok (.getfield 342, 3) := dk_180 1 86 (dk_at dksX1_restore_1 17 rfl rfl)
theorem dX1_restore_44 : decode cX1_restore 44 = .ok (.invokespecial 336, 3) := dk_183 1 80 (dk_at dksX1_restore_1 20 rfl rfl)
theorem dX1_restore_47 : decode cX1_restore 47 = .ok (.putfield 68, 3) := dk_181 0 68 (dk_at dksX1_restore_2 0 rfl rfl)
theorem dX1_restore_50 : decode cX1_restore 50 = .ok (.iconst 1, 1) := dk_4 (dk_at dksX1_restore_2 3 rfl rfl)
theorem dX1_restore_51 : decode cX1_restore 51 = .ok (.ireturn, 1) := dk_172 (dk_at dksX1_restore_2 4 rfl rfl)
abbrev cX1_leastTo : ByteArray := prog_1_method_42_code
def yX1_leastTo : MethodName := ⟨RX1, "leastTo", "([I)[[I"⟩
def dkwX1_leastTo_5 : List UInt8 := [79, 132, 6, 1, 167, 255, 189, 132, 5, 1, 167, 255, 161, 132, 4, 255, 167, 255, 147, 45, 176]
abbrev dktX1_leastTo_5 : List UInt8 := dkwX1_leastTo_5 ++ []
def dkwX1_leastTo_4 : List UInt8 := [21, 4, 46, 182, 1, 10, 45, 21, 4, 4, 96, 50, 21, 5, 4, 21, 6, 120, 128, 46, 96, 184, 0, 10]
abbrev dktX1_leastTo_4 : List UInt8 := dkwX1_leastTo_4 ++ dktX1_leastTo_5
def dkwX1_leastTo_3 : List UInt8 := [184, 1, 2, 154, 0, 45, 45, 21, 4, 50, 21, 5, 45, 21, 4, 50, 21, 5, 46, 42, 21, 6, 43]
abbrev dktX1_leastTo_3 : List UInt8 := dkwX1_leastTo_3 ++ dktX1_leastTo_4
def dkwX1_leastTo_2 : List UInt8 := [21, 5, 18, 243, 79, 3, 54, 6, 21, 6, 42, 180, 0, 31, 182, 0, 101, 162, 0, 61, 21, 5, 21, 6]
abbrev dktX1_leastTo_2 : List UInt8 := dkwX1_leastTo_2 ++ dktX1_leastTo_3
def dkwX1_leastTo_1 : List UInt8 := [54, 4, 21, 4, 155, 0, 110, 3, 54, 5, 21, 5, 45, 21, 4, 50, 190, 162, 0, 91, 45, 21, 4, 50]
abbrev dktX1_leastTo_1 : List UInt8 := dkwX1_leastTo_1 ++ dktX1_leastTo_2
def dkwX1_leastTo_0 : List UInt8 := [43, 190, 61, 28, 4, 96, 4, 42, 180, 0, 31, 182, 0, 101, 120, 197, 1, 8, 2, 78, 28, 4, 100]
abbrev dktX1_leastTo_0 : List UInt8 := dkwX1_leastTo_0 ++ dktX1_leastTo_1
theorem dksX1_leastTo_0 : cX1_leastTo.data.toList.drop 0 = dktX1_leastTo_0 := by decide +kernel
theorem dksX1_leastTo_1 : cX1_leastTo.data.toList.drop 23 = dktX1_leastTo_1 := dk_seg dksX1_leastTo_0 23 rfl rfl
theorem dksX1_leastTo_2 : cX1_leastTo.data.toList.drop 47 = dktX1_leastTo_2 := dk_seg dksX1_leastTo_1 24 rfl rfl
theorem dksX1_leastTo_3 : cX1_leastTo.data.toList.drop 71 = dktX1_leastTo_3 := dk_seg dksX1_leastTo_2 24 rfl rfl
theorem dksX1_leastTo_4 : cX1_leastTo.data.toList.drop 94 = dktX1_leastTo_4 := dk_seg dksX1_leastTo_3 23 rfl rfl
theorem dksX1_leastTo_5 : cX1_leastTo.data.toList.drop 118 = dktX1_leastTo_5 := dk_seg dksX1_leastTo_4 24 rfl rfl
theorem dX1_leastTo_0 : decode cX1_leastTo 0 = .ok (.aload_n 1, 1) := dk_43 (dk_at dksX1_leastTo_0 0 rfl rfl)
theorem dX1_leastTo_1 : decode cX1_leastTo 1 = .ok (.arraylength, 1) := dk_190 (dk_at dksX1_leastTo_0 1 rfl rfl)
theorem dX1_leastTo_2 : decode cX1_leastTo 2 = .ok (.istore_n 2, 1) := dk_61 (dk_at dksX1_leastTo_0 2 rfl rfl)
theorem dX1_leastTo_3 : decode cX1_leastTo 3 = .ok (.iload_n 2, 1) := dk_28 (dk_at dksX1_leastTo_0 3 rfl rfl)
theorem dX1_leastTo_4 : decode cX1_leastTo 4 = .ok (.iconst 1, 1) := dk_4 (dk_at dksX1_leastTo_0 4 rfl rfl)
theorem dX1_leastTo_5 : decode cX1_leastTo 5 = .ok (.iadd, 1) := dk_96 (dk_at dksX1_leastTo_0 5 rfl rfl)
theorem dX1_leastTo_6 : decode cX1_leastTo 6 = .ok (.iconst 1, 1) := dk_4 (dk_at dksX1_leastTo_0 6 rfl rfl)
theorem dX1_leastTo_7 : decode cX1_leastTo 7 = .ok (.aload_n 0, 1) := dk_42 (dk_at dksX1_leastTo_0 7 rfl rfl)
theorem dX1_leastTo_8 : decode cX1_leastTo 8 = .ok (.getfield 31, 3) := dk_180 0 31 (dk_at dksX1_leastTo_0 8 rfl rfl)
theorem dX1_leastTo_11 : decode cX1_leastTo 11 = .ok (.invokevirtual 101, 3) := dk_182 0 101 (dk_at dksX1_leastTo_0 11 rfl rfl)
theorem dX1_leastTo_14 : decode cX1_leastTo 14 = .ok (.ishl, 1) := dk_120 (dk_at dksX1_leastTo_0 14 rfl rfl)
theorem dX1_leastTo_15 : decode cX1_leastTo 15 = .ok (.multianewarray 264 2, 4) := by decide +kernel
theorem dX1_leastTo_19 : decode cX1_leastTo 19 = .ok (.astore_n 3, 1) := dk_78 (dk_at dksX1_leastTo_0 19 rfl rfl)
theorem dX1_leastTo_20 : decode cX1_leastTo 20 = .ok (.iload_n 2, 1) := dk_28 (dk_at dksX1_leastTo_0 20 rfl rfl)
theorem dX1_leastTo_21 : decode cX1_leastTo 21 = .ok (.iconst 1, 1) := dk_4 (dk_at dksX1_leastTo_0 21 rfl rfl)
theorem dX1_leastTo_22 : decode cX1_leastTo 22 = .ok (.isub, 1) := dk_100 (dk_at dksX1_leastTo_0 22 rfl rfl)
theorem dX1_leastTo_23 : decode cX1_leastTo 23 = .ok (.istore 4, 2) := dk_54 4 (dk_at dksX1_leastTo_1 0 rfl rfl)
theorem dX1_leastTo_25 : decode cX1_leastTo 25 = .ok (.iload 4, 2) := dk_21 4 (dk_at dksX1_leastTo_1 2 rfl rfl)
theorem dX1_leastTo_27 : decode cX1_leastTo 27 = .ok (.ifCond .lt 110, 3) := dk_155 0 110 (dk_at dksX1_leastTo_1 4 rfl rfl)
theorem dX1_leastTo_30 : decode cX1_leastTo 30 = .ok (.iconst 0, 1) := dk_3 (dk_at dksX1_leastTo_1 7 rfl rfl)
theorem dX1_leastTo_31 : decode cX1_leastTo 31 = .ok (.istore 5, 2) := dk_54 5 (dk_at dksX1_leastTo_1 8 rfl rfl)
theorem dX1_leastTo_33 : decode cX1_leastTo 33 = .ok (.iload 5, 2) := dk_21 5 (dk_at dksX1_leastTo_1 10 rfl rfl)
theorem dX1_leastTo_35 : decode cX1_leastTo 35 = .ok (.aload_n 3, 1) := dk_45 (dk_at dksX1_leastTo_1 12 rfl rfl)
theorem dX1_leastTo_36 : decode cX1_leastTo 36 = .ok (.iload 4, 2) := dk_21 4 (dk_at dksX1_leastTo_1 13 rfl rfl)
theorem dX1_leastTo_38 : decode cX1_leastTo 38 = .ok (.aaload, 1) := dk_50 (dk_at dksX1_leastTo_1 15 rfl rfl)
theorem dX1_leastTo_39 : decode cX1_leastTo 39 = .ok (.arraylength, 1) := dk_190 (dk_at dksX1_leastTo_1 16 rfl rfl)
theorem dX1_leastTo_40 : decode cX1_leastTo 40 = .ok (.if_icmp .ge 91, 3) := dk_162 0 91 (dk_at dksX1_leastTo_1 17 rfl rfl)
theorem dX1_leastTo_43 : decode cX1_leastTo 43 = .ok (.aload_n 3, 1) := dk_45 (dk_at dksX1_leastTo_1 20 rfl rfl)
theorem dX1_leastTo_44 : decode cX1_leastTo 44 = .ok (.iload 4, 2) := dk_21 4 (dk_at dksX1_leastTo_1 21 rfl rfl)
theorem dX1_leastTo_46 : decode cX1_leastTo 46 = .ok (.aaload, 1) := dk_50 (dk_at dksX1_leastTo_1 23 rfl rfl)
theorem dX1_leastTo_47 : decode cX1_leastTo 47 = .ok (.iload 5, 2) := dk_21 5 (dk_at dksX1_leastTo_2 0 rfl rfl)
theorem dX1_leastTo_49 : decode cX1_leastTo 49 = .ok (.ldc 243, 2) := dk_18 243 (dk_at dksX1_leastTo_2 2 rfl rfl)
theorem dX1_leastTo_51 : decode cX1_leastTo 51 = .ok (.iastore, 1) := dk_79 (dk_at dksX1_leastTo_2 4 rfl rfl)
theorem dX1_leastTo_52 : decode cX1_leastTo 52 = .ok (.iconst 0, 1) := dk_3 (dk_at dksX1_leastTo_2 5 rfl rfl)
theorem dX1_leastTo_53 : decode cX1_leastTo 53 = .ok (.istore 6, 2) := dk_54 6 (dk_at dksX1_leastTo_2 6 rfl rfl)
theorem dX1_leastTo_55 : decode cX1_leastTo 55 = .ok (.iload 6, 2) := dk_21 6 (dk_at dksX1_leastTo_2 8 rfl rfl)
theorem dX1_leastTo_57 : decode cX1_leastTo 57 = .ok (.aload_n 0, 1) := dk_42 (dk_at dksX1_leastTo_2 10 rfl rfl)
theorem dX1_leastTo_58 : decode cX1_leastTo 58 = .ok (.getfield 31, 3) := dk_180 0 31 (dk_at dksX1_leastTo_2 11 rfl rfl)
theorem dX1_leastTo_61 : decode cX1_leastTo 61 = .ok (.invokevirtual 101, 3) := dk_182 0 101 (dk_at dksX1_leastTo_2 14 rfl rfl)
theorem dX1_leastTo_64 : decode cX1_leastTo 64 = .ok (.if_icmp .ge 61, 3) := dk_162 0 61 (dk_at dksX1_leastTo_2 17 rfl rfl)
theorem dX1_leastTo_67 : decode cX1_leastTo 67 = .ok (.iload 5, 2) := dk_21 5 (dk_at dksX1_leastTo_2 20 rfl rfl)
theorem dX1_leastTo_69 : decode cX1_leastTo 69 = .ok (.iload 6, 2) := dk_21 6 (dk_at dksX1_leastTo_2 22 rfl rfl)
theorem dX1_leastTo_71 : decode cX1_leastTo 71 = .ok (.invokestatic 258, 3) := dk_184 1 2 (dk_at dksX1_leastTo_3 0 rfl rfl)
theorem dX1_leastTo_74 : decode cX1_leastTo 74 = .ok (.ifCond .ne 45, 3) := dk_154 0 45 (dk_at dksX1_leastTo_3 3 rfl rfl)
theorem dX1_leastTo_77 : decode cX1_leastTo 77 = .ok (.aload_n 3, 1) := dk_45 (dk_at dksX1_leastTo_3 6 rfl rfl)
theorem dX1_leastTo_78 : decode cX1_leastTo 78 = .ok (.iload 4, 2) := dk_21 4 (dk_at dksX1_leastTo_3 7 rfl rfl)
theorem dX1_leastTo_80 : decode cX1_leastTo 80 = .ok (.aaload, 1) := dk_50 (dk_at dksX1_leastTo_3 9 rfl rfl)
theorem dX1_leastTo_81 : decode cX1_leastTo 81 = .ok (.iload 5, 2) := dk_21 5 (dk_at dksX1_leastTo_3 10 rfl rfl)
theorem dX1_leastTo_83 : decode cX1_leastTo 83 = .ok (.aload_n 3, 1) := dk_45 (dk_at dksX1_leastTo_3 12 rfl rfl)
theorem dX1_leastTo_84 : decode cX1_leastTo 84 = .ok (.iload 4, 2) := dk_21 4 (dk_at dksX1_leastTo_3 13 rfl rfl)
theorem dX1_leastTo_86 : decode cX1_leastTo 86 = .ok (.aaload, 1) := dk_50 (dk_at dksX1_leastTo_3 15 rfl rfl)
theorem dX1_leastTo_87 : decode cX1_leastTo 87 = .ok (.iload 5, 2) := dk_21 5 (dk_at dksX1_leastTo_3 16 rfl rfl)
theorem dX1_leastTo_89 : decode cX1_leastTo 89 = .ok (.iaload, 1) := dk_46 (dk_at dksX1_leastTo_3 18 rfl rfl)
theorem dX1_leastTo_90 : decode cX1_leastTo 90 = .ok (.aload_n 0, 1) := dk_42 (dk_at dksX1_leastTo_3 19 rfl rfl)
theorem dX1_leastTo_91 : decode cX1_leastTo 91 = .ok (.iload 6, 2) := dk_21 6 (dk_at dksX1_leastTo_3 20 rfl rfl)
theorem dX1_leastTo_93 : decode cX1_leastTo 93 = .ok (.aload_n 1, 1) := dk_43 (dk_at dksX1_leastTo_3 22 rfl rfl)
theorem dX1_leastTo_94 : decode cX1_leastTo 94 = .ok (.iload 4, 2) := dk_21 4 (dk_at dksX1_leastTo_4 0 rfl rfl)
theorem dX1_leastTo_96 : decode cX1_leastTo 96 = .ok (.iaload, 1) := dk_46 (dk_at dksX1_leastTo_4 2 rfl rfl)
theorem dX1_leastTo_97 : decode cX1_leastTo 97 = .ok (.invokevirtual 266, 3) := dk_182 1 10 (dk_at dksX1_leastTo_4 3 rfl rfl)
theorem dX1_leastTo_100 : decode cX1_leastTo 100 = .ok (.aload_n 3, 1) := dk_45 (dk_at dksX1_leastTo_4 6 rfl rfl)
theorem dX1_leastTo_101 : decode cX1_leastTo 101 = .ok (.iload 4, 2) := dk_21 4 (dk_at dksX1_leastTo_4 7 rfl rfl)
theorem dX1_leastTo_103 : decode cX1_leastTo 103 = .ok (.iconst 1, 1) := dk_4 (dk_at dksX1_leastTo_4 9 rfl rfl)
theorem dX1_leastTo_104 : decode cX1_leastTo 104 = .ok (.iadd, 1) := dk_96 (dk_at dksX1_leastTo_4 10 rfl rfl)
theorem dX1_leastTo_105 : decode cX1_leastTo 105 = .ok (.aaload, 1) := dk_50 (dk_at dksX1_leastTo_4 11 rfl rfl)
theorem dX1_leastTo_106 : decode cX1_leastTo 106 = .ok (.iload 5, 2) := dk_21 5 (dk_at dksX1_leastTo_4 12 rfl rfl)
theorem dX1_leastTo_108 : decode cX1_leastTo 108 = .ok (.iconst 1, 1) := dk_4 (dk_at dksX1_leastTo_4 14 rfl rfl)
theorem dX1_leastTo_109 : decode cX1_leastTo 109 = .ok (.iload 6, 2) := dk_21 6 (dk_at dksX1_leastTo_4 15 rfl rfl)
theorem dX1_leastTo_111 : decode cX1_leastTo 111 = .ok (.ishl, 1) := dk_120 (dk_at dksX1_leastTo_4 17 rfl rfl)
theorem dX1_leastTo_112 : decode cX1_leastTo 112 = .ok (.ior, 1) := dk_128 (dk_at dksX1_leastTo_4 18 rfl rfl)
theorem dX1_leastTo_113 : decode cX1_leastTo 113 = .ok (.iaload, 1) := dk_46 (dk_at dksX1_leastTo_4 19 rfl rfl)
theorem dX1_leastTo_114 : decode cX1_leastTo 114 = .ok (.iadd, 1) := dk_96 (dk_at dksX1_leastTo_4 20 rfl rfl)
theorem dX1_leastTo_115 : decode cX1_leastTo 115 = .ok (.invokestatic 10, 3) := dk_184 0 10 (dk_at dksX1_leastTo_4 21 rfl rfl)
theorem dX1_leastTo_118 : decode cX1_leastTo 118 = .ok (.iastore, 1) := dk_79 (dk_at dksX1_leastTo_5 0 rfl rfl)
theorem dX1_leastTo_119 : decode cX1_leastTo 119 = .ok (.iinc 6 1, 3) := dk_132 6 1 (dk_at dksX1_leastTo_5 1 rfl rfl)
theorem dX1_leastTo_122 : decode cX1_leastTo 122 = .ok (.goto (-67), 3) := dk_167 255 189 (dk_at dksX1_leastTo_5 4 rfl rfl)
theorem dX1_leastTo_125 : decode cX1_leastTo 125 = .ok (.iinc 5 1, 3) := dk_132 5 1 (dk_at dksX1_leastTo_5 7 rfl rfl)
theorem dX1_leastTo_128 : decode cX1_leastTo 128 = .ok (.goto (-95), 3) := dk_167 255 161 (dk_at dksX1_leastTo_5 10 rfl rfl)
theorem dX1_leastTo_131 : decode cX1_leastTo 131 = .ok (.iinc 4 (-1), 3) := dk_132 4 255 (dk_at dksX1_leastTo_5 13 rfl rfl)
theorem dX1_leastTo_134 : decode cX1_leastTo 134 = .ok (.goto (-109), 3) := dk_167 255 147 (dk_at dksX1_leastTo_5 16 rfl rfl)
theorem dX1_leastTo_137 : decode cX1_leastTo 137 = .ok (.aload_n 3, 1) := dk_45 (dk_at dksX1_leastTo_5 19 rfl rfl)
theorem dX1_leastTo_138 : decode cX1_leastTo 138 = .ok (.areturn, 1) := dk_176 (dk_at dksX1_leastTo_5 20 rfl rfl)
abbrev cX1_sent : ByteArray := prog_1_method_43_code
def yX1_sent : MethodName := ⟨RX1, "sent", "(II)I"⟩
def dkwX1_sent_9 : List UInt8 := [21, 7, 172, 21, 5, 4, 21, 7, 120, 128, 54, 5, 132, 6, 1, 167, 255, 150, 2, 172]
abbrev dktX1_sent_9 : List UInt8 := dkwX1_sent_9 ++ []
def dkwX1_sent_8 : List UInt8 := [21, 5, 46, 160, 0, 7, 21, 8, 54, 7, 132, 8, 255, 167, 255, 197, 45, 21, 6, 46, 28, 160, 0, 6]
abbrev dktX1_sent_8 : List UInt8 := dkwX1_sent_8 ++ dktX1_sent_9
def dkwX1_sent_7 : List UInt8 := [182, 1, 10, 25, 4, 21, 6, 4, 96, 50, 21, 5, 4, 21, 8, 120, 128, 46, 96, 25, 4, 21, 6, 50]
abbrev dktX1_sent_7 : List UInt8 := dkwX1_sent_7 ++ dktX1_sent_8
def dkwX1_sent_6 : List UInt8 := [21, 8, 155, 0, 60, 21, 5, 21, 8, 184, 1, 2, 154, 0, 44, 42, 21, 8, 45, 21, 6, 46]
abbrev dktX1_sent_6 : List UInt8 := dkwX1_sent_6 ++ dktX1_sent_7
def dkwX1_sent_5 : List UInt8 := [54, 6, 21, 6, 45, 190, 162, 0, 105, 2, 54, 7, 42, 180, 0, 31, 182, 0, 101, 4, 100, 54, 8]
abbrev dktX1_sent_5 : List UInt8 := dkwX1_sent_5 ++ dktX1_sent_6
def dkwX1_sent_4 : List UInt8 := [42, 45, 182, 1, 17, 58, 4, 28, 2, 160, 0, 10, 25, 4, 3, 50, 3, 46, 172, 3, 54, 5, 3]
abbrev dktX1_sent_4 : List UInt8 := dkwX1_sent_4 ++ dktX1_sent_5
def dkwX1_sent_3 : List UInt8 := [184, 0, 148, 42, 27, 182, 1, 13, 78, 45, 190, 42, 180, 0, 31, 182, 0, 101, 164, 0, 6, 16, 254, 172]
abbrev dktX1_sent_3 : List UInt8 := dkwX1_sent_3 ++ dktX1_sent_4
def dkwX1_sent_2 : List UInt8 := [180, 0, 115, 4, 100, 184, 0, 144, 153, 0, 15, 27, 28, 184, 1, 2, 153, 0, 7, 4, 167, 0, 4, 3]
abbrev dktX1_sent_2 : List UInt8 := dkwX1_sent_2 ++ dktX1_sent_3
def dkwX1_sent_1 : List UInt8 := [16, 6, 163, 0, 7, 4, 167, 0, 4, 3, 184, 0, 74, 28, 2, 159, 0, 28, 28, 3, 42, 180, 0, 31]
abbrev dktX1_sent_1 : List UInt8 := dkwX1_sent_1 ++ dktX1_sent_2
def dkwX1_sent_0 : List UInt8 := [27, 3, 4, 42, 180, 0, 31, 180, 0, 115, 120, 4, 100, 184, 0, 144, 153, 0, 16, 27, 184, 0, 255]
abbrev dktX1_sent_0 : List UInt8 := dkwX1_sent_0 ++ dktX1_sent_1
theorem dksX1_sent_0 : cX1_sent.data.toList.drop 0 = dktX1_sent_0 := by decide +kernel
theorem dksX1_sent_1 : cX1_sent.data.toList.drop 23 = dktX1_sent_1 := dk_seg dksX1_sent_0 23 rfl rfl
theorem dksX1_sent_2 : cX1_sent.data.toList.drop 47 = dktX1_sent_2 := dk_seg dksX1_sent_1 24 rfl rfl
theorem dksX1_sent_3 : cX1_sent.data.toList.drop 71 = dktX1_sent_3 := dk_seg dksX1_sent_2 24 rfl rfl
theorem dksX1_sent_4 : cX1_sent.data.toList.drop 95 = dktX1_sent_4 := dk_seg dksX1_sent_3 24 rfl rfl
theorem dksX1_sent_5 : cX1_sent.data.toList.drop 118 = dktX1_sent_5 := dk_seg dksX1_sent_4 23 rfl rfl
theorem dksX1_sent_6 : cX1_sent.data.toList.drop 141 = dktX1_sent_6 := dk_seg dksX1_sent_5 23 rfl rfl
theorem dksX1_sent_7 : cX1_sent.data.toList.drop 163 = dktX1_sent_7 := dk_seg dksX1_sent_6 22 rfl rfl
theorem dksX1_sent_8 : cX1_sent.data.toList.drop 187 = dktX1_sent_8 := dk_seg dksX1_sent_7 24 rfl rfl
theorem dksX1_sent_9 : cX1_sent.data.toList.drop 211 = dktX1_sent_9 := dk_seg dksX1_sent_8 24 rfl rfl
theorem dX1_sent_0 : decode cX1_sent 0 = .ok (.iload_n 1, 1) := dk_27 (dk_at dksX1_sent_0 0 rfl rfl)
theorem dX1_sent_1 : decode cX1_sent 1 = .ok (.iconst 0, 1) := dk_3 (dk_at dksX1_sent_0 1 rfl rfl)
theorem dX1_sent_2 : decode cX1_sent 2 = .ok (.iconst 1, 1) := dk_4 (dk_at dksX1_sent_0 2 rfl rfl)
theorem dX1_sent_3 : decode cX1_sent 3 = .ok (.aload_n 0, 1) := dk_42 (dk_at dksX1_sent_0 3 rfl rfl)
theorem dX1_sent_4 : decode cX1_sent 4 = .ok (.getfield 31, 3) := dk_180 0 31 (dk_at dksX1_sent_0 4 rfl rfl)
theorem dX1_sent_7 : decode cX1_sent 7 = .ok (.getfield 115, 3) := dk_180 0 115 (dk_at dksX1_sent_0 7 rfl rfl)
theorem dX1_sent_10 : decode cX1_sent 10 = .ok (.ishl, 1) := dk_120 (dk_at dksX1_sent_0 10 rfl rfl)
theorem dX1_sent_11 : decode cX1_sent 11 = .ok (.iconst 1, 1) := dk_4 (dk_at dksX1_sent_0 11 rfl rfl)
theorem dX1_sent_12 : decode cX1_sent 12 = .ok (.isub, 1) := dk_100 (dk_at dksX1_sent_0 12 rfl rfl)
theorem dX1_sent_13 : decode cX1_sent 13 = .ok (.invokestatic 144, 3) := dk_184 0 144 (dk_at dksX1_sent_0 13 rfl rfl)
theorem dX1_sent_16 : decode cX1_sent 16 = .ok (.ifCond .eq 16, 3) := dk_153 0 16 (dk_at dksX1_sent_0 16 rfl rfl)
theorem dX1_sent_19 : decode cX1_sent 19 = .ok (.iload_n 1, 1) := dk_27 (dk_at dksX1_sent_0 19 rfl rfl)
theorem dX1_sent_20 : decode cX1_sent 20 = .ok (.invokestatic 255, 3) := dk_184 0 255 (dk_at dksX1_sent_0 20 rfl rfl)
theorem dX1_sent_23 : decode cX1_sent 23 = .ok (.bipush 6, 2) := dk_16 6 (dk_at dksX1_sent_1 0 rfl rfl)
theorem dX1_sent_25 : decode cX1_sent 25 = .ok (.if_icmp .gt 7, 3) := dk_163 0 7 (dk_at dksX1_sent_1 2 rfl rfl)
theorem dX1_sent_28 : decode cX1_sent 28 = .ok (.iconst 1, 1) := dk_4 (dk_at dksX1_sent_1 5 rfl rfl)
theorem dX1_sent_29 : decode cX1_sent 29 = .ok (.goto 4, 3) := dk_167 0 4 (dk_at dksX1_sent_1 6 rfl rfl)
theorem dX1_sent_32 : decode cX1_sent 32 = .ok (.iconst 0, 1) := dk_3 (dk_at dksX1_sent_1 9 rfl rfl)
theorem dX1_sent_33 : decode cX1_sent 33 = .ok (.invokestatic 74, 3) := dk_184 0 74 (dk_at dksX1_sent_1 10 rfl rfl)
theorem dX1_sent_36 : decode cX1_sent 36 = .ok (.iload_n 2, 1) := dk_28 (dk_at dksX1_sent_1 13 rfl rfl)
theorem dX1_sent_37 : decode cX1_sent 37 = .ok (.iconst (-1), 1) := dk_2 (dk_at dksX1_sent_1 14 rfl rfl)
theorem dX1_sent_38 : decode cX1_sent 38 = .ok (.if_icmp .eq 28, 3) := dk_159 0 28 (dk_at dksX1_sent_1 15 rfl rfl)
theorem dX1_sent_41 : decode cX1_sent 41 = .ok (.iload_n 2, 1) := dk_28 (dk_at dksX1_sent_1 18 rfl rfl)
theorem dX1_sent_42 : decode cX1_sent 42 = .ok (.iconst 0, 1) := dk_3 (dk_at dksX1_sent_1 19 rfl rfl)
theorem dX1_sent_43 : decode cX1_sent 43 = .ok (.aload_n 0, 1) := dk_42 (dk_at dksX1_sent_1 20 rfl rfl)
theorem dX1_sent_44 : decode cX1_sent 44 = .ok (.getfield 31, 3) := dk_180 0 31 (dk_at dksX1_sent_1 21 rfl rfl)
theorem dX1_sent_47 : decode cX1_sent 47 = .ok (.getfield 115, 3) := dk_180 0 115 (dk_at dksX1_sent_2 0 rfl rfl)
theorem dX1_sent_50 : decode cX1_sent 50 = .ok (.iconst 1, 1) := dk_4 (dk_at dksX1_sent_2 3 rfl rfl)
theorem dX1_sent_51 : decode cX1_sent 51 = .ok (.isub, 1) := dk_100 (dk_at dksX1_sent_2 4 rfl rfl)
theorem dX1_sent_52 : decode cX1_sent 52 = .ok (.invokestatic 144, 3) := dk_184 0 144 (dk_at dksX1_sent_2 5 rfl rfl)
theorem dX1_sent_55 : decode cX1_sent 55 = .ok (.ifCond .eq 15, 3) := dk_153 0 15 (dk_at dksX1_sent_2 8 rfl rfl)
theorem dX1_sent_58 : decode cX1_sent 58 = .ok (.iload_n 1, 1) := dk_27 (dk_at dksX1_sent_2 11 rfl rfl)
theorem dX1_sent_59 : decode cX1_sent 59 = .ok (.iload_n 2, 1) := dk_28 (dk_at dksX1_sent_2 12 rfl rfl)
theorem dX1_sent_60 : decode cX1_sent 60 = .ok (.invokestatic 258, 3) := dk_184 1 2 (dk_at dksX1_sent_2 13 rfl rfl)
theorem dX1_sent_63 : decode cX1_sent 63 = .ok (.ifCond .eq 7, 3) := dk_153 0 7 (dk_at dksX1_sent_2 16 rfl rfl)
theorem dX1_sent_66 : decode cX1_sent 66 = .ok (.iconst 1, 1) := dk_4 (dk_at dksX1_sent_2 19 rfl rfl)
theorem dX1_sent_67 : decode cX1_sent 67 = .ok (.goto 4, 3) := dk_167 0 4 (dk_at dksX1_sent_2 20 rfl rfl)
theorem dX1_sent_70 : decode cX1_sent 70 = .ok (.iconst 0, 1) := dk_3 (dk_at dksX1_sent_2 23 rfl rfl)
theorem dX1_sent_71 : decode cX1_sent 71 = .ok (.invokestatic 148, 3) := dk_184 0 148 (dk_at dksX1_sent_3 0 rfl rfl)
theorem dX1_sent_74 : decode cX1_sent 74 = .ok (.aload_n 0, 1) := dk_42 (dk_at dksX1_sent_3 3 rfl rfl)
theorem dX1_sent_75 : decode cX1_sent 75 = .ok (.iload_n 1, 1) := dk_27 (dk_at dksX1_sent_3 4 rfl rfl)
theorem dX1_sent_76 : decode cX1_sent 76 = .ok (.invokevirtual 269, 3) := dk_182 1 13 (dk_at dksX1_sent_3 5 rfl rfl)
theorem dX1_sent_79 : decode cX1_sent 79 = .ok (.astore_n 3, 1) := dk_78 (dk_at dksX1_sent_3 8 rfl rfl)
theorem dX1_sent_80 : decode cX1_sent 80 = .ok (.aload_n 3, 1) := dk_45 (dk_at dksX1_sent_3 9 rfl rfl)
theorem dX1_sent_81 : decode cX1_sent 81 = .ok (.arraylength, 1) := dk_190 (dk_at dksX1_sent_3 10 rfl rfl)
theorem dX1_sent_82 : decode cX1_sent 82 = .ok (.aload_n 0, 1) := dk_42 (dk_at dksX1_sent_3 11 rfl rfl)
theorem dX1_sent_83 : decode cX1_sent 83 = .ok (.getfield 31, 3) := dk_180 0 31 (dk_at dksX1_sent_3 12 rfl rfl)
theorem dX1_sent_86 : decode cX1_sent 86 = .ok (.invokevirtual 101, 3) := dk_182 0 101 (dk_at dksX1_sent_3 15 rfl rfl)
theorem dX1_sent_89 : decode cX1_sent 89 = .ok (.if_icmp .le 6, 3) := dk_164 0 6 (dk_at dksX1_sent_3 18 rfl rfl)
theorem dX1_sent_92 : decode cX1_sent 92 = .ok (.bipush (-2), 2) := dk_16 254 (dk_at dksX1_sent_3 21 rfl rfl)
theorem dX1_sent_94 : decode cX1_sent 94 = .ok (.ireturn, 1) := dk_172 (dk_at dksX1_sent_3 23 rfl rfl)
theorem dX1_sent_95 : decode cX1_sent 95 = .ok (.aload_n 0, 1) := dk_42 (dk_at dksX1_sent_4 0 rfl rfl)
theorem dX1_sent_96 : decode cX1_sent 96 = .ok (.aload_n 3, 1) := dk_45 (dk_at dksX1_sent_4 1 rfl rfl)
theorem dX1_sent_97 : decode cX1_sent 97 = .ok (.invokevirtual 273, 3) := dk_182 1 17 (dk_at dksX1_sent_4 2 rfl rfl)
theorem dX1_sent_100 : decode cX1_sent 100 = .ok (.astore 4, 2) := dk_58 4 (dk_at dksX1_sent_4 5 rfl rfl)
theorem dX1_sent_102 : decode cX1_sent 102 = .ok (.iload_n 2, 1) := dk_28 (dk_at dksX1_sent_4 7 rfl rfl)
theorem dX1_sent_103 : decode cX1_sent 103 = .ok (.iconst (-1), 1) := dk_2 (dk_at dksX1_sent_4 8 rfl rfl)
theorem dX1_sent_104 : decode cX1_sent 104 = .ok (.if_icmp .ne 10, 3) := dk_160 0 10 (dk_at dksX1_sent_4 9 rfl rfl)
theorem dX1_sent_107 : decode cX1_sent 107 = .ok (.aload 4, 2) := dk_25 4 (dk_at dksX1_sent_4 12 rfl rfl)
theorem dX1_sent_109 : decode cX1_sent 109 = .ok (.iconst 0, 1) := dk_3 (dk_at dksX1_sent_4 14 rfl rfl)
theorem dX1_sent_110 : decode cX1_sent 110 = .ok (.aaload, 1) := dk_50 (dk_at dksX1_sent_4 15 rfl rfl)
theorem dX1_sent_111 : decode cX1_sent 111 = .ok (.iconst 0, 1) := dk_3 (dk_at dksX1_sent_4 16 rfl rfl)
theorem dX1_sent_112 : decode cX1_sent 112 = .ok (.iaload, 1) := dk_46 (dk_at dksX1_sent_4 17 rfl rfl)
theorem dX1_sent_113 : decode cX1_sent 113 = .ok (.ireturn, 1) := dk_172 (dk_at dksX1_sent_4 18 rfl rfl)
theorem dX1_sent_114 : decode cX1_sent 114 = .ok (.iconst 0, 1) := dk_3 (dk_at dksX1_sent_4 19 rfl rfl)
theorem dX1_sent_115 : decode cX1_sent 115 = .ok (.istore 5, 2) := dk_54 5 (dk_at dksX1_sent_4 20 rfl rfl)
theorem dX1_sent_117 : decode cX1_sent 117 = .ok (.iconst 0, 1) := dk_3 (dk_at dksX1_sent_4 22 rfl rfl)
theorem dX1_sent_118 : decode cX1_sent 118 = .ok (.istore 6, 2) := dk_54 6 (dk_at dksX1_sent_5 0 rfl rfl)
theorem dX1_sent_120 : decode cX1_sent 120 = .ok (.iload 6, 2) := dk_21 6 (dk_at dksX1_sent_5 2 rfl rfl)
theorem dX1_sent_122 : decode cX1_sent 122 = .ok (.aload_n 3, 1) := dk_45 (dk_at dksX1_sent_5 4 rfl rfl)
theorem dX1_sent_123 : decode cX1_sent 123 = .ok (.arraylength, 1) := dk_190 (dk_at dksX1_sent_5 5 rfl rfl)
theorem dX1_sent_124 : decode cX1_sent 124 = .ok (.if_icmp .ge 105, 3) := dk_162 0 105 (dk_at dksX1_sent_5 6 rfl rfl)
theorem dX1_sent_127 : decode cX1_sent 127 = .ok (.iconst (-1), 1) := dk_2 (dk_at dksX1_sent_5 9 rfl rfl)
theorem dX1_sent_128 : decode cX1_sent 128 = .ok (.istore 7, 2) := dk_54 7 (dk_at dksX1_sent_5 10 rfl rfl)
theorem dX1_sent_130 : decode cX1_sent 130 = .ok (.aload_n 0, 1) := dk_42 (dk_at dksX1_sent_5 12 rfl rfl)
theorem dX1_sent_131 : decode cX1_sent 131 = .ok (.getfield 31, 3) := dk_180 0 31 (dk_at dksX1_sent_5 13 rfl rfl)
theorem dX1_sent_134 : decode cX1_sent 134 = .ok (.invokevirtual 101, 3) := dk_182 0 101 (dk_at dksX1_sent_5 16 rfl rfl)
theorem dX1_sent_137 : decode cX1_sent 137 = .ok (.iconst 1, 1) := dk_4 (dk_at dksX1_sent_5 19 rfl rfl)
theorem dX1_sent_138 : decode cX1_sent 138 = .ok (.isub, 1) := dk_100 (dk_at dksX1_sent_5 20 rfl rfl)
theorem dX1_sent_139 : decode cX1_sent 139 = .ok (.istore 8, 2) := dk_54 8 (dk_at dksX1_sent_5 21 rfl rfl)
theorem dX1_sent_141 : decode cX1_sent 141 = .ok (.iload 8, 2) := dk_21 8 (dk_at dksX1_sent_6 0 rfl rfl)
theorem dX1_sent_143 : decode cX1_sent 143 = .ok (.ifCond .lt 60, 3) := dk_155 0 60 (dk_at dksX1_sent_6 2 rfl rfl)
theorem dX1_sent_146 : decode cX1_sent 146 = .ok (.iload 5, 2) := dk_21 5 (dk_at dksX1_sent_6 5 rfl rfl)
theorem dX1_sent_148 : decode cX1_sent 148 = .ok (.iload 8, 2) := dk_21 8 (dk_at dksX1_sent_6 7 rfl rfl)
theorem dX1_sent_150 : decode cX1_sent 150 = .ok (.invokestatic 258, 3) := dk_184 1 2 (dk_at dksX1_sent_6 9 rfl rfl)
theorem dX1_sent_153 : decode cX1_sent 153 = .ok (.ifCond .ne 44, 3) := dk_154 0 44 (dk_at dksX1_sent_6 12 rfl rfl)
theorem dX1_sent_156 : decode cX1_sent 156 = .ok (.aload_n 0, 1) := dk_42 (dk_at dksX1_sent_6 15 rfl rfl)
theorem dX1_sent_157 : decode cX1_sent 157 = .ok (.iload 8, 2) := dk_21 8 (dk_at dksX1_sent_6 16 rfl rfl)
theorem dX1_sent_159 : decode cX1_sent 159 = .ok (.aload_n 3, 1) := dk_45 (dk_at dksX1_sent_6 18 rfl rfl)
theorem dX1_sent_160 : decode cX1_sent 160 = .ok (.iload 6, 2) := dk_21 6 (dk_at dksX1_sent_6 19 rfl rfl)
theorem dX1_sent_162 : decode cX1_sent 162 = .ok (.iaload, 1) := dk_46 (dk_at dksX1_sent_6 21 rfl rfl)
theorem dX1_sent_163 : decode cX1_sent 163 = .ok (.invokevirtual 266, 3) := dk_182 1 10 (dk_at dksX1_sent_7 0 rfl rfl)
theorem dX1_sent_166 : decode cX1_sent 166 = .ok (.aload 4, 2) := dk_25 4 (dk_at dksX1_sent_7 3 rfl rfl)
theorem dX1_sent_168 : decode cX1_sent 168 = .ok (.iload 6, 2) := dk_21 6 (dk_at dksX1_sent_7 5 rfl rfl)
theorem dX1_sent_170 : decode cX1_sent 170 = .ok (.iconst 1, 1) := dk_4 (dk_at dksX1_sent_7 7 rfl rfl)
theorem dX1_sent_171 : decode cX1_sent 171 = .ok (.iadd, 1) := dk_96 (dk_at dksX1_sent_7 8 rfl rfl)
theorem dX1_sent_172 : decode cX1_sent 172 = .ok (.aaload, 1) := dk_50 (dk_at dksX1_sent_7 9 rfl rfl)
theorem dX1_sent_173 : decode cX1_sent 173 = .ok (.iload 5, 2) := dk_21 5 (dk_at dksX1_sent_7 10 rfl rfl)
theorem dX1_sent_175 : decode cX1_sent 175 = .ok (.iconst 1, 1) := dk_4 (dk_at dksX1_sent_7 12 rfl rfl)
theorem dX1_sent_176 : decode cX1_sent 176 = .ok (.iload 8, 2) := dk_21 8 (dk_at dksX1_sent_7 13 rfl rfl)
theorem dX1_sent_178 : decode cX1_sent 178 = .ok (.ishl, 1) := dk_120 (dk_at dksX1_sent_7 15 rfl rfl)
theorem dX1_sent_179 : decode cX1_sent 179 = .ok (.ior, 1) := dk_128 (dk_at dksX1_sent_7 16 rfl rfl)
theorem dX1_sent_180 : decode cX1_sent 180 = .ok (.iaload, 1) := dk_46 (dk_at dksX1_sent_7 17 rfl rfl)
theorem dX1_sent_181 : decode cX1_sent 181 = .ok (.iadd, 1) := dk_96 (dk_at dksX1_sent_7 18 rfl rfl)
theorem dX1_sent_182 : decode cX1_sent 182 = .ok (.aload 4, 2) := dk_25 4 (dk_at dksX1_sent_7 19 rfl rfl)
theorem dX1_sent_184 : decode cX1_sent 184 = .ok (.iload 6, 2) := dk_21 6 (dk_at dksX1_sent_7 21 rfl rfl)
theorem dX1_sent_186 : decode cX1_sent 186 = .ok (.aaload, 1) := dk_50 (dk_at dksX1_sent_7 23 rfl rfl)
theorem dX1_sent_187 : decode cX1_sent 187 = .ok (.iload 5, 2) := dk_21 5 (dk_at dksX1_sent_8 0 rfl rfl)
theorem dX1_sent_189 : decode cX1_sent 189 = .ok (.iaload, 1) := dk_46 (dk_at dksX1_sent_8 2 rfl rfl)
theorem dX1_sent_190 : decode cX1_sent 190 = .ok (.if_icmp .ne 7, 3) := dk_160 0 7 (dk_at dksX1_sent_8 3 rfl rfl)
theorem dX1_sent_193 : decode cX1_sent 193 = .ok (.iload 8, 2) := dk_21 8 (dk_at dksX1_sent_8 6 rfl rfl)
theorem dX1_sent_195 : decode cX1_sent 195 = .ok (.istore 7, 2) := dk_54 7 (dk_at dksX1_sent_8 8 rfl rfl)
theorem dX1_sent_197 : decode cX1_sent 197 = .ok (.iinc 8 (-1), 3) := dk_132 8 255 (dk_at dksX1_sent_8 10 rfl rfl)
theorem dX1_sent_200 : decode cX1_sent 200 = .ok (.goto (-59), 3) := dk_167 255 197 (dk_at dksX1_sent_8 13 rfl rfl)
theorem dX1_sent_203 : decode cX1_sent 203 = .ok (.aload_n 3, 1) := dk_45 (dk_at dksX1_sent_8 16 rfl rfl)
theorem dX1_sent_204 : decode cX1_sent 204 = .ok (.iload 6, 2) := dk_21 6 (dk_at dksX1_sent_8 17 rfl rfl)
theorem dX1_sent_206 : decode cX1_sent 206 = .ok (.iaload, 1) := dk_46 (dk_at dksX1_sent_8 19 rfl rfl)
theorem dX1_sent_207 : decode cX1_sent 207 = .ok (.iload_n 2, 1) := dk_28 (dk_at dksX1_sent_8 20 rfl rfl)
theorem dX1_sent_208 : decode cX1_sent 208 = .ok (.if_icmp .ne 6, 3) := dk_160 0 6 (dk_at dksX1_sent_8 21 rfl rfl)
theorem dX1_sent_211 : decode cX1_sent 211 = .ok (.iload 7, 2) := dk_21 7 (dk_at dksX1_sent_9 0 rfl rfl)
theorem dX1_sent_213 : decode cX1_sent 213 = .ok (.ireturn, 1) := dk_172 (dk_at dksX1_sent_9 2 rfl rfl)
theorem dX1_sent_214 : decode cX1_sent 214 = .ok (.iload 5, 2) := dk_21 5 (dk_at dksX1_sent_9 3 rfl rfl)
theorem dX1_sent_216 : decode cX1_sent 216 = .ok (.iconst 1, 1) := dk_4 (dk_at dksX1_sent_9 5 rfl rfl)
theorem dX1_sent_217 : decode cX1_sent 217 = .ok (.iload 7, 2) := dk_21 7 (dk_at dksX1_sent_9 6 rfl rfl)
theorem dX1_sent_219 : decode cX1_sent 219 = .ok (.ishl, 1) := dk_120 (dk_at dksX1_sent_9 8 rfl rfl)
theorem dX1_sent_220 : decode cX1_sent 220 = .ok (.ior, 1) := dk_128 (dk_at dksX1_sent_9 9 rfl rfl)
theorem dX1_sent_221 : decode cX1_sent 221 = .ok (.istore 5, 2) := dk_54 5 (dk_at dksX1_sent_9 10 rfl rfl)
theorem dX1_sent_223 : decode cX1_sent 223 = .ok (.iinc 6 1, 3) := dk_132 6 1 (dk_at dksX1_sent_9 12 rfl rfl)
theorem dX1_sent_226 : decode cX1_sent 226 = .ok (.goto (-106), 3) := dk_167 255 150 (dk_at dksX1_sent_9 15 rfl rfl)
theorem dX1_sent_229 : decode cX1_sent 229 = .ok (.iconst (-1), 1) := dk_2 (dk_at dksX1_sent_9 18 rfl rfl)
theorem dX1_sent_230 : decode cX1_sent 230 = .ok (.ireturn, 1) := dk_172 (dk_at dksX1_sent_9 19 rfl rfl)
abbrev cX1_look : ByteArray := prog_1_method_57_code
def yX1_look : MethodName := ⟨RX1, "look", "(I)I"⟩
def dkwX1_look_11 : List UInt8 := [21, 5, 172]
abbrev dktX1_look_11 : List UInt8 := dkwX1_look_11 ++ []
def dkwX1_look_10 : List UInt8 := [21, 6, 54, 4, 21, 7, 54, 5, 132, 6, 1, 167, 255, 148, 27, 154, 0, 8, 21, 4, 167, 0, 5]
abbrev dktX1_look_10 : List UInt8 := dkwX1_look_10 ++ dktX1_look_11
def dkwX1_look_9 : List UInt8 := [21, 9, 153, 0, 6, 132, 7, 1, 132, 8, 1, 167, 255, 190, 21, 7, 21, 5, 163, 0, 6, 167, 0, 11]
abbrev dktX1_look_9 : List UInt8 := dkwX1_look_9 ++ dktX1_look_10
def dkwX1_look_8 : List UInt8 := [45, 21, 8, 50, 21, 6, 46, 159, 0, 7, 4, 167, 0, 4, 3, 54, 9, 132, 10, 1, 167, 255, 217]
abbrev dktX1_look_8 : List UInt8 := dkwX1_look_8 ++ dktX1_look_9
def dkwX1_look_7 : List UInt8 := [54, 9, 3, 54, 10, 21, 10, 21, 8, 162, 0, 38, 21, 9, 153, 0, 33, 45, 21, 10, 50, 21, 6, 46]
abbrev dktX1_look_7 : List UInt8 := dkwX1_look_7 ++ dktX1_look_8
def dkwX1_look_6 : List UInt8 := [180, 0, 31, 180, 0, 115, 162, 0, 102, 3, 54, 7, 3, 54, 8, 21, 8, 45, 190, 162, 0, 65, 4]
abbrev dktX1_look_6 : List UInt8 := dkwX1_look_6 ++ dktX1_look_7
def dkwX1_look_5 : List UInt8 := [132, 5, 1, 167, 255, 229, 132, 4, 1, 167, 255, 156, 2, 54, 4, 3, 54, 5, 3, 54, 6, 21, 6, 42]
abbrev dktX1_look_5 : List UInt8 := dkwX1_look_5 ++ dktX1_look_6
def dkwX1_look_4 : List UInt8 := [21, 5, 16, 12, 162, 0, 26, 45, 21, 4, 50, 21, 5, 42, 180, 0, 44, 180, 0, 158, 21, 5, 46, 79]
abbrev dktX1_look_4 : List UInt8 := dkwX1_look_4 ++ dktX1_look_5
def dkwX1_look_3 : List UInt8 := [192, 0, 184, 182, 0, 186, 16, 100, 112, 182, 0, 217, 42, 180, 0, 44, 8, 182, 0, 206, 87, 3, 54, 5]
abbrev dktX1_look_3 : List UInt8 := dkwX1_look_3 ++ dktX1_look_4
def dkwX1_look_2 : List UInt8 := [185, 0, 180, 2, 0, 192, 0, 184, 182, 0, 186, 16, 100, 108, 44, 21, 4, 185, 0, 180, 2, 0]
abbrev dktX1_look_2 : List UInt8 := dkwX1_look_2 ++ dktX1_look_3
def dkwX1_look_1 : List UInt8 := [54, 4, 21, 4, 45, 190, 162, 0, 99, 42, 180, 0, 44, 42, 180, 0, 40, 182, 0, 224, 44, 21, 4]
abbrev dktX1_look_1 : List UInt8 := dkwX1_look_1 ++ dktX1_look_2
def dkwX1_look_0 : List UInt8 := [27, 4, 184, 0, 173, 42, 182, 1, 52, 77, 44, 185, 0, 121, 1, 0, 16, 12, 197, 1, 8, 2, 78, 3]
abbrev dktX1_look_0 : List UInt8 := dkwX1_look_0 ++ dktX1_look_1
theorem dksX1_look_0 : cX1_look.data.toList.drop 0 = dktX1_look_0 := by decide +kernel
theorem dksX1_look_1 : cX1_look.data.toList.drop 24 = dktX1_look_1 := dk_seg dksX1_look_0 24 rfl rfl
theorem dksX1_look_2 : cX1_look.data.toList.drop 47 = dktX1_look_2 := dk_seg dksX1_look_1 23 rfl rfl
theorem dksX1_look_3 : cX1_look.data.toList.drop 69 = dktX1_look_3 := dk_seg dksX1_look_2 22 rfl rfl
theorem dksX1_look_4 : cX1_look.data.toList.drop 93 = dktX1_look_4 := dk_seg dksX1_look_3 24 rfl rfl
theorem dksX1_look_5 : cX1_look.data.toList.drop 117 = dktX1_look_5 := dk_seg dksX1_look_4 24 rfl rfl
theorem dksX1_look_6 : cX1_look.data.toList.drop 141 = dktX1_look_6 := dk_seg dksX1_look_5 24 rfl rfl
theorem dksX1_look_7 : cX1_look.data.toList.drop 164 = dktX1_look_7 := dk_seg dksX1_look_6 23 rfl rfl
theorem dksX1_look_8 : cX1_look.data.toList.drop 188 = dktX1_look_8 := dk_seg dksX1_look_7 24 rfl rfl
theorem dksX1_look_9 : cX1_look.data.toList.drop 211 = dktX1_look_9 := dk_seg dksX1_look_8 23 rfl rfl
theorem dksX1_look_10 : cX1_look.data.toList.drop 235 = dktX1_look_10 := dk_seg dksX1_look_9 24 rfl rfl
theorem dksX1_look_11 : cX1_look.data.toList.drop 258 = dktX1_look_11 := dk_seg dksX1_look_10 23 rfl rfl
theorem dX1_look_0 : decode cX1_look 0 = .ok (.iload_n 1, 1) := dk_27 (dk_at dksX1_look_0 0 rfl rfl)
theorem dX1_look_1 : decode cX1_look 1 = .ok (.iconst 1, 1) := dk_4 (dk_at dksX1_look_0 1 rfl rfl)
theorem dX1_look_2 : decode cX1_look 2 = .ok (.invokestatic 173, 3) := dk_184 0 173 (dk_at dksX1_look_0 2 rfl rfl)
theorem dX1_look_5 : decode cX1_look 5 = .ok (.aload_n 0, 1) := dk_42 (dk_at dksX1_look_0 5 rfl rfl)
theorem dX1_look_6 : decode cX1_look 6 = .ok (.invokevirtual 308, 3) := dk_182 1 52 (dk_at dksX1_look_0 6 rfl rfl)
theorem dX1_look_9 : decode cX1_look 9 = .ok (.astore_n 2, 1) := dk_77 (dk_at dksX1_look_0 9 rfl rfl)
theorem dX1_look_10 : decode cX1_look 10 = .ok (.aload_n 2, 1) := dk_44 (dk_at dksX1_look_0 10 rfl rfl)
theorem dX1_look_11 : decode cX1_look 11 = .ok (.invokeinterface 121 1, 5) := by decide +kernel
theorem dX1_look_16 : decode cX1_look 16 = .ok (.bipush 12, 2) := dk_16 12 (dk_at dksX1_look_0 16 rfl rfl)
theorem dX1_look_18 : decode cX1_look 18 = .ok (.multianewarray 264 2, 4) := by decide +kernel
theorem dX1_look_22 : decode cX1_look 22 = .ok (.astore_n 3, 1) := dk_78 (dk_at dksX1_look_0 22 rfl rfl)
theorem dX1_look_23 : decode cX1_look 23 = .ok (.iconst 0, 1) := dk_3 (dk_at dksX1_look_0 23 rfl rfl)
theorem dX1_look_24 : decode cX1_look 24 = .ok (.istore 4, 2) := dk_54 4 (dk_at dksX1_look_1 0 rfl rfl)
theorem dX1_look_26 : decode cX1_look 26 = .ok (.iload 4, 2) := dk_21 4 (dk_at dksX1_look_1 2 rfl rfl)
theorem dX1_look_28 : decode cX1_look 28 = .ok (.aload_n 3, 1) := dk_45 (dk_at dksX1_look_1 4 rfl rfl)
theorem dX1_look_29 : decode cX1_look 29 = .ok (.arraylength, 1) := dk_190 (dk_at dksX1_look_1 5 rfl rfl)
theorem dX1_look_30 : decode cX1_look 30 = .ok (.if_icmp .ge 99, 3) := dk_162 0 99 (dk_at dksX1_look_1 6 rfl rfl)
theorem dX1_look_33 : decode cX1_look 33 = .ok (.aload_n 0, 1) := dk_42 (dk_at dksX1_look_1 9 rfl rfl)
theorem dX1_look_34 : decode cX1_look 34 = .ok (.getfield 44, 3) := dk_180 0 44 (dk_at dksX1_look_1 10 rfl rfl)
theorem dX1_look_37 : decode cX1_look 37 = .ok (.aload_n 0, 1) := dk_42 (dk_at dksX1_look_1 13 rfl rfl)
theorem dX1_look_38 : decode cX1_look 38 = .ok (.getfield 40, 3) := dk_180 0 40 (dk_at dksX1_look_1 14 rfl rfl)
theorem dX1_look_41 : decode cX1_look 41 = .ok (.invokevirtual 224, 3) := dk_182 0 224 (dk_at dksX1_look_1 17 rfl rfl)
theorem dX1_look_44 : decode cX1_look 44 = .ok (.aload_n 2, 1) := dk_44 (dk_at dksX1_look_1 20 rfl rfl)
theorem dX1_look_45 : decode cX1_look 45 = .ok (.iload 4, 2) := dk_21 4 (dk_at dksX1_look_1 21 rfl rfl)
theorem dX1_look_47 : decode cX1_look 47 = .ok (.invokeinterface 180 2, 5) := by decide +kernel
theorem dX1_look_52 : decode cX1_look 52 = .ok (.checkcast 184, 3) := dk_192 0 184 (dk_at dksX1_look_2 5 rfl rfl)
theorem dX1_look_55 : decode cX1_look 55 = .ok (.invokevirtual 186, 3) := dk_182 0 186 (dk_at dksX1_look_2 8 rfl rfl)
theorem dX1_look_58 : decode cX1_look 58 = .ok (.bipush 100, 2) := dk_16 100 (dk_at dksX1_look_2 11 rfl rfl)
theorem dX1_look_60 : decode cX1_look 60 = .ok (.idiv, 1) := dk_108 (dk_at dksX1_look_2 13 rfl rfl)
theorem dX1_look_61 : decode cX1_look 61 = .ok (.aload_n 2, 1) := dk_44 (dk_at dksX1_look_2 14 rfl rfl)
theorem dX1_look_62 : decode cX1_look 62 = .ok (.iload 4, 2) := dk_21 4 (dk_at dksX1_look_2 15 rfl rfl)
theorem dX1_look_64 : decode cX1_look 64 = .ok (.invokeinterface 180 2, 5) := by decide +kernel
theorem dX1_look_69 : decode cX1_look 69 = .ok (.checkcast 184, 3) := dk_192 0 184 (dk_at dksX1_look_3 0 rfl rfl)
theorem dX1_look_72 : decode cX1_look 72 = .ok (.invokevirtual 186, 3) := dk_182 0 186 (dk_at dksX1_look_3 3 rfl rfl)
theorem dX1_look_75 : decode cX1_look 75 = .ok (.bipush 100, 2) := dk_16 100 (dk_at dksX1_look_3 6 rfl rfl)
theorem dX1_look_77 : decode cX1_look 77 = .ok (.irem, 1) := dk_112 (dk_at dksX1_look_3 8 rfl rfl)
theorem dX1_look_78 : decode cX1_look 78 = .ok (.invokevirtual 217, 3) := dk_182 0 217 (dk_at dksX1_look_3 9 rfl rfl)
theorem dX1_look_81 : decode cX1_look 81 = .ok (.aload_n 0, 1) := dk_42 (dk_at dksX1_look_3 12 rfl rfl)
theorem dX1_look_82 : decode cX1_look 82 = .ok (.getfield 44, 3) := dk_180 0 44 (dk_at dksX1_look_3 13 rfl rfl)
theorem dX1_look_85 : decode cX1_look 85 = .ok (.iconst 5, 1) := dk_8 (dk_at dksX1_look_3 16 rfl rfl)
theorem dX1_look_86 : decode cX1_look 86 = .ok (.invokevirtual 206, 3) := dk_182 0 206 (dk_at dksX1_look_3 17 rfl rfl)
theorem dX1_look_89 : decode cX1_look 89 = .ok (.pop, 1) := dk_87 (dk_at dksX1_look_3 20 rfl rfl)
theorem dX1_look_90 : decode cX1_look 90 = .ok (.iconst 0, 1) := dk_3 (dk_at dksX1_look_3 21 rfl rfl)
theorem dX1_look_91 : decode cX1_look 91 = .ok (.istore 5, 2) := dk_54 5 (dk_at dksX1_look_3 22 rfl rfl)
theorem dX1_look_93 : decode cX1_look 93 = .ok (.iload 5, 2) := dk_21 5 (dk_at dksX1_look_4 0 rfl rfl)
theorem dX1_look_95 : decode cX1_look 95 = .ok (.bipush 12, 2) := dk_16 12 (dk_at dksX1_look_4 2 rfl rfl)
theorem dX1_look_97 : decode cX1_look 97 = .ok (.if_icmp .ge 26, 3) := dk_162 0 26 (dk_at dksX1_look_4 4 rfl rfl)
theorem dX1_look_100 : decode cX1_look 100 = .ok (.aload_n 3, 1) := dk_45 (dk_at dksX1_look_4 7 rfl rfl)
theorem dX1_look_101 : decode cX1_look 101 = .ok (.iload 4, 2) := dk_21 4 (dk_at dksX1_look_4 8 rfl rfl)
theorem dX1_look_103 : decode cX1_look 103 = .ok (.aaload, 1) := dk_50 (dk_at dksX1_look_4 10 rfl rfl)
theorem dX1_look_104 : decode cX1_look 104 = .ok (.iload 5, 2) := dk_21 5 (dk_at dksX1_look_4 11 rfl rfl)
theorem dX1_look_106 : decode cX1_look 106 = .ok (.aload_n 0, 1) := dk_42 (dk_at dksX1_look_4 13 rfl rfl)
theorem dX1_look_107 : decode cX1_look 107 = .ok (.getfield 44, 3) := dk_180 0 44 (dk_at dksX1_look_4 14 rfl rfl)
theorem dX1_look_110 : decode cX1_look 110 = .ok (.getfield 158, 3) := dk_180 0 158 (dk_at dksX1_look_4 17 rfl rfl)
theorem dX1_look_113 : decode cX1_look 113 = .ok (.iload 5, 2) := dk_21 5 (dk_at dksX1_look_4 20 rfl rfl)
theorem dX1_look_115 : decode cX1_look 115 = .ok (.iaload, 1) := dk_46 (dk_at dksX1_look_4 22 rfl rfl)
theorem dX1_look_116 : decode cX1_look 116 = .ok (.iastore, 1) := dk_79 (dk_at dksX1_look_4 23 rfl rfl)
theorem dX1_look_117 : decode cX1_look 117 = .ok (.iinc 5 1, 3) := dk_132 5 1 (dk_at dksX1_look_5 0 rfl rfl)
theorem dX1_look_120 : decode cX1_look 120 = .ok (.goto (-27), 3) := dk_167 255 229 (dk_at dksX1_look_5 3 rfl rfl)
theorem dX1_look_123 : decode cX1_look 123 = .ok (.iinc 4 1, 3) := dk_132 4 1 (dk_at dksX1_look_5 6 rfl rfl)
theorem dX1_look_126 : decode cX1_look 126 = .ok (.goto (-100), 3) := dk_167 255 156 (dk_at dksX1_look_5 9 rfl rfl)
theorem dX1_look_129 : decode cX1_look 129 = .ok (.iconst (-1), 1) := dk_2 (dk_at dksX1_look_5 12 rfl rfl)
theorem dX1_look_130 : decode cX1_look 130 = .ok (.istore 4, 2) := dk_54 4 (dk_at dksX1_look_5 13 rfl rfl)
theorem dX1_look_132 : decode cX1_look 132 = .ok (.iconst 0, 1) := dk_3 (dk_at dksX1_look_5 15 rfl rfl)
theorem dX1_look_133 : decode cX1_look 133 = .ok (.istore 5, 2) := dk_54 5 (dk_at dksX1_look_5 16 rfl rfl)
theorem dX1_look_135 : decode cX1_look 135 = .ok (.iconst 0, 1) := dk_3 (dk_at dksX1_look_5 18 rfl rfl)
theorem dX1_look_136 : decode cX1_look 136 = .ok (.istore 6, 2) := dk_54 6 (dk_at dksX1_look_5 19 rfl rfl)
theorem dX1_look_138 : decode cX1_look 138 = .ok (.iload 6, 2) := dk_21 6 (dk_at dksX1_look_5 21 rfl rfl)
theorem dX1_look_140 : decode cX1_look 140 = .ok (.aload_n 0, 1) := dk_42 (dk_at dksX1_look_5 23 rfl rfl)
theorem dX1_look_141 : decode cX1_look 141 = .ok (.getfield 31, 3) := dk_180 0 31 (dk_at dksX1_look_6 0 rfl rfl)
theorem dX1_look_144 : decode cX1_look 144 = .ok (.getfield 115, 3) := dk_180 0 115 (dk_at dksX1_look_6 3 rfl rfl)
theorem dX1_look_147 : decode cX1_look 147 = .ok (.if_icmp .ge 102, 3) := dk_162 0 102 (dk_at dksX1_look_6 6 rfl rfl)
theorem dX1_look_150 : decode cX1_look 150 = .ok (.iconst 0, 1) := dk_3 (dk_at dksX1_look_6 9 rfl rfl)
theorem dX1_look_151 : decode cX1_look 151 = .ok (.istore 7, 2) := dk_54 7 (dk_at dksX1_look_6 10 rfl rfl)
theorem dX1_look_153 : decode cX1_look 153 = .ok (.iconst 0, 1) := dk_3 (dk_at dksX1_look_6 12 rfl rfl)
theorem dX1_look_154 : decode cX1_look 154 = .ok (.istore 8, 2) := dk_54 8 (dk_at dksX1_look_6 13 rfl rfl)
theorem dX1_look_156 : decode cX1_look 156 = .ok (.iload 8, 2) := dk_21 8 (dk_at dksX1_look_6 15 rfl rfl)
theorem dX1_look_158 : decode cX1_look 158 = .ok (.aload_n 3, 1) := dk_45 (dk_at dksX1_look_6 17 rfl rfl)
theorem dX1_look_159 : decode cX1_look 159 = .ok (.arraylength, 1) := dk_190 (dk_at dksX1_look_6 18 rfl rfl)
theorem dX1_look_160 : decode cX1_look 160 = .ok (.if_icmp .ge 65, 3) := dk_162 0 65 (dk_at dksX1_look_6 19 rfl rfl)
theorem dX1_look_163 : decode cX1_look 163 = .ok (.iconst 1, 1) := dk_4 (dk_at dksX1_look_6 22 rfl rfl)
theorem dX1_look_164 : decode cX1_look 164 = .ok (.istore 9, 2) := dk_54 9 (dk_at dksX1_look_7 0 rfl rfl)
theorem dX1_look_166 : decode cX1_look 166 = .ok (.iconst 0, 1) := dk_3 (dk_at dksX1_look_7 2 rfl rfl)
theorem dX1_look_167 : decode cX1_look 167 = .ok (.istore 10, 2) := dk_54 10 (dk_at dksX1_look_7 3 rfl rfl)
theorem dX1_look_169 : decode cX1_look 169 = .ok (.iload 10, 2) := dk_21 10 (dk_at dksX1_look_7 5 rfl rfl)
theorem dX1_look_171 : decode cX1_look 171 = .ok (.iload 8, 2) := dk_21 8 (dk_at dksX1_look_7 7 rfl rfl)
theorem dX1_look_173 : decode cX1_look 173 = .ok (.if_icmp .ge 38, 3) := dk_162 0 38 (dk_at dksX1_look_7 9 rfl rfl)
theorem dX1_look_176 : decode cX1_look 176 = .ok (.iload 9, 2) := dk_21 9 (dk_at dksX1_look_7 12 rfl rfl)
theorem dX1_look_178 : decode cX1_look 178 = .ok (.ifCond .eq 33, 3) := dk_153 0 33 (dk_at dksX1_look_7 14 rfl rfl)
theorem dX1_look_181 : decode cX1_look 181 = .ok (.aload_n 3, 1) := dk_45 (dk_at dksX1_look_7 17 rfl rfl)
theorem dX1_look_182 : decode cX1_look 182 = .ok (.iload 10, 2) := dk_21 10 (dk_at dksX1_look_7 18 rfl rfl)
theorem dX1_look_184 : decode cX1_look 184 = .ok (.aaload, 1) := dk_50 (dk_at dksX1_look_7 20 rfl rfl)
theorem dX1_look_185 : decode cX1_look 185 = .ok (.iload 6, 2) := dk_21 6 (dk_at dksX1_look_7 21 rfl rfl)
theorem dX1_look_187 : decode cX1_look 187 = .ok (.iaload, 1) := dk_46 (dk_at dksX1_look_7 23 rfl rfl)
theorem dX1_look_188 : decode cX1_look 188 = .ok (.aload_n 3, 1) := dk_45 (dk_at dksX1_look_8 0 rfl rfl)
theorem dX1_look_189 : decode cX1_look 189 = .ok (.iload 8, 2) := dk_21 8 (dk_at dksX1_look_8 1 rfl rfl)
theorem dX1_look_191 : decode cX1_look 191 = .ok (.aaload, 1) := dk_50 (dk_at dksX1_look_8 3 rfl rfl)
theorem dX1_look_192 : decode cX1_look 192 = .ok (.iload 6, 2) := dk_21 6 (dk_at dksX1_look_8 4 rfl rfl)
theorem dX1_look_194 : decode cX1_look 194 = .ok (.iaload, 1) := dk_46 (dk_at dksX1_look_8 6 rfl rfl)
theorem dX1_look_195 : decode cX1_look 195 = .ok (.if_icmp .eq 7, 3) := dk_159 0 7 (dk_at dksX1_look_8 7 rfl rfl)
theorem dX1_look_198 : decode cX1_look 198 = .ok (.iconst 1, 1) := dk_4 (dk_at dksX1_look_8 10 rfl rfl)
theorem dX1_look_199 : decode cX1_look 199 = .ok (.goto 4, 3) := dk_167 0 4 (dk_at dksX1_look_8 11 rfl rfl)
theorem dX1_look_202 : decode cX1_look 202 = .ok (.iconst 0, 1) := dk_3 (dk_at dksX1_look_8 14 rfl rfl)
theorem dX1_look_203 : decode cX1_look 203 = .ok (.istore 9, 2) := dk_54 9 (dk_at dksX1_look_8 15 rfl rfl)
theorem dX1_look_205 : decode cX1_look 205 = .ok (.iinc 10 1, 3) := dk_132 10 1 (dk_at dksX1_look_8 17 rfl rfl)
theorem dX1_look_208 : decode cX1_look 208 = .ok (.goto (-39), 3) := dk_167 255 217 (dk_at dksX1_look_8 20 rfl rfl)
theorem dX1_look_211 : decode cX1_look 211 = .ok (.iload 9, 2) := dk_21 9 (dk_at dksX1_look_9 0 rfl rfl)
theorem dX1_look_213 : decode cX1_look 213 = .ok (.ifCond .eq 6, 3) := dk_153 0 6 (dk_at dksX1_look_9 2 rfl rfl)
theorem dX1_look_216 : decode cX1_look 216 = .ok (.iinc 7 1, 3) := dk_132 7 1 (dk_at dksX1_look_9 5 rfl rfl)
theorem dX1_look_219 : decode cX1_look 219 = .ok (.iinc 8 1, 3) := dk_132 8 1 (dk_at dksX1_look_9 8 rfl rfl)
theorem dX1_look_222 : decode cX1_look 222 = .ok (.goto (-66), 3) := dk_167 255 190 (dk_at dksX1_look_9 11 rfl rfl)
theorem dX1_look_225 : decode cX1_look 225 = .ok (.iload 7, 2) := dk_21 7 (dk_at dksX1_look_9 14 rfl rfl)
theorem dX1_look_227 : decode cX1_look 227 = .ok (.iload 5, 2) := dk_21 5 (dk_at dksX1_look_9 16 rfl rfl)
theorem dX1_look_229 : decode cX1_look 229 = .ok (.if_icmp .gt 6, 3) := dk_163 0 6 (dk_at dksX1_look_9 18 rfl rfl)
theorem dX1_look_232 : decode cX1_look 232 = .ok (.goto 11, 3) := dk_167 0 11 (dk_at dksX1_look_9 21 rfl rfl)
theorem dX1_look_235 : decode cX1_look 235 = .ok (.iload 6, 2) := dk_21 6 (dk_at dksX1_look_10 0 rfl rfl)
theorem dX1_look_237 : decode cX1_look 237 = .ok (.istore 4, 2) := dk_54 4 (dk_at dksX1_look_10 2 rfl rfl)
theorem dX1_look_239 : decode cX1_look 239 = .ok (.iload 7, 2) := dk_21 7 (dk_at dksX1_look_10 4 rfl rfl)
theorem dX1_look_241 : decode cX1_look 241 = .ok (.istore 5, 2) := dk_54 5 (dk_at dksX1_look_10 6 rfl rfl)
theorem dX1_look_243 : decode cX1_look 243 = .ok (.iinc 6 1, 3) := dk_132 6 1 (dk_at dksX1_look_10 8 rfl rfl)
theorem dX1_look_246 : decode cX1_look 246 = .ok (.goto (-108), 3) := dk_167 255 148 (dk_at dksX1_look_10 11 rfl rfl)
theorem dX1_look_249 : decode cX1_look 249 = .ok (.iload_n 1, 1) := dk_27 (dk_at dksX1_look_10 14 rfl rfl)
theorem dX1_look_250 : decode cX1_look 250 = .ok (.ifCond .ne 8, 3) := dk_154 0 8 (dk_at dksX1_look_10 15 rfl rfl)
theorem dX1_look_253 : decode cX1_look 253 = .ok (.iload 4, 2) := dk_21 4 (dk_at dksX1_look_10 18 rfl rfl)
theorem dX1_look_255 : decode cX1_look 255 = .ok (.goto 5, 3) := dk_167 0 5 (dk_at dksX1_look_10 20 rfl rfl)
theorem dX1_look_258 : decode cX1_look 258 = .ok (.iload 5, 2) := dk_21 5 (dk_at dksX1_look_11 0 rfl rfl)
theorem dX1_look_260 : decode cX1_look 260 = .ok (.ireturn, 1) := dk_172 (dk_at dksX1_look_11 2 rfl rfl)
